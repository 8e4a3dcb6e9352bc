/-! names: X13_nameOf X13_token X13_numberToken X13_hex X13_texts X13_tells X13_word X13_isWord X13_fails X13_constantTold X13_name X13_sign X13_isSign X13_value X13_expression X13_chain (tools/names.py) -/
set_option maxRecDepth 100000
theorem q3351 : (Jvm.Cond.methodLink "CompiledHouseModel" (221 : Nat) ({ cls := "CompiledHouseModel", name := "hex", desc := "(I)I" } : Jvm.MethodName)) ∈ lw_all := lw_g (lw_at lw_m14 35 rfl) rfl
abbrev cX13_hex : ByteArray := prog_39_method_8_code
def yX13_hex : MethodName := ⟨RX13, "hex", "(I)I"⟩
theorem q3353 : (Jvm.Cond.code ({ cls := "CompiledHouseModel", name := "hex", desc := "(I)I" } : Jvm.MethodName) prog_39_method_8_code (1 : Nat) (Option.some Jvm.ClassFile.FieldType.int)) ∈ lw_all := lw_g (lw_at lw_m14 37 rfl) rfl
def kX13_hex : xK := (yX13_hex, cX13_hex, 1, some .int, [])
theorem me_X13_hex : xMe kX13_hex 1 := ⟨q3353, q216, by decide, by decide, by decide +kernel⟩
theorem q3352 : (Jvm.Cond.static ({ cls := "CompiledHouseModel", name := "hex", desc := "(I)I" } : Jvm.MethodName)) ∈ lw_all := lw_g (lw_at lw_m14 36 rfl) rfl
theorem st_X13_hex : Cond.static kX13_hex.y ∈ lw_all := q3352
theorem lk_X13_221 : xLk RX13 221 yX13_hex := Or.inl q3351
theorem q3354 : (Jvm.Cond.constantLong "CompiledHouseModel" (224 : Nat) (16 : Int64)) ∈ lw_all := lw_g (lw_at lw_m14 38 rfl) rfl
theorem q3355 : (Jvm.Cond.constantLong "CompiledHouseModel" (226 : Nat) (10 : Int64)) ∈ lw_all := lw_g (lw_at lw_m14 39 rfl) rfl
theorem q3356 : (Jvm.Cond.constantLong "CompiledHouseModel" (228 : Nat) (4294967295 : Int64)) ∈ lw_all := lw_g (lw_at lw_m14 40 rfl) rfl
theorem q3041 : (Jvm.Cond.fieldLink "CompiledHouseModel" (233 : Nat) "CompiledHouseModel" "t" "I") ∈ lw_all := lw_g (lw_at lw_m12 205 rfl) rfl
theorem f_X13_233_12 : xF RX13 233 12 42 := ⟨_, "CompiledHouseModel", rfl, by decide, Or.inl q3041, Or.inl rfl⟩
theorem q3042 : (Jvm.Cond.fieldLink "CompiledHouseModel" (266 : Nat) "CompiledHouseModel" "open" "I") ∈ lw_all := lw_g (lw_at lw_m12 206 rfl) rfl
theorem f_X13_266_12 : xF RX13 266 12 43 := ⟨_, "CompiledHouseModel", rfl, by decide, Or.inl q3042, Or.inl rfl⟩
theorem q3013 : (Jvm.Cond.fieldLink "CompiledHouseModel" (279 : Nat) "CompiledHouseModel" "told" "I") ∈ lw_all := lw_g (lw_at lw_m12 177 rfl) rfl
theorem f_X13_279_12 : xF RX13 279 12 14 := ⟨_, "CompiledHouseModel", rfl, by decide, Or.inl q3013, Or.inl rfl⟩
theorem q3014 : (Jvm.Cond.fieldLink "CompiledHouseModel" (282 : Nat) "CompiledHouseModel" "scope" "I") ∈ lw_all := lw_g (lw_at lw_m12 178 rfl) rfl
theorem f_X13_282_12 : xF RX13 282 12 15 := ⟨_, "CompiledHouseModel", rfl, by decide, Or.inl q3014, Or.inl rfl⟩
theorem q3059 : (Jvm.Cond.fieldLink "CompiledHouseModel" (276 : Nat) "CompiledHouseModel" "steps" "I") ∈ lw_all := lw_g (lw_at lw_m12 223 rfl) rfl
theorem f_X13_276_12 : xF RX13 276 12 60 := ⟨_, "CompiledHouseModel", rfl, by decide, Or.inl q3059, Or.inl rfl⟩
theorem q3069 : (Jvm.Cond.fieldLink "CompiledHouseModel" (285 : Nat) "CompiledHouseModel" "pending" "I") ∈ lw_all := lw_g (lw_at lw_m12 233 rfl) rfl
theorem f_X13_285_12 : xF RX13 285 12 70 := ⟨_, "CompiledHouseModel", rfl, by decide, Or.inl q3069, Or.inl rfl⟩
theorem q3035 : (Jvm.Cond.fieldLink "CompiledHouseModel" (288 : Nat) "CompiledHouseModel" "words" "I") ∈ lw_all := lw_g (lw_at lw_m12 199 rfl) rfl
theorem f_X13_288_12 : xF RX13 288 12 36 := ⟨_, "CompiledHouseModel", rfl, by decide, Or.inl q3035, Or.inl rfl⟩
theorem q3036 : (Jvm.Cond.fieldLink "CompiledHouseModel" (291 : Nat) "CompiledHouseModel" "cells" "I") ∈ lw_all := lw_g (lw_at lw_m12 200 rfl) rfl
theorem f_X13_291_12 : xF RX13 291 12 37 := ⟨_, "CompiledHouseModel", rfl, by decide, Or.inl q3036, Or.inl rfl⟩
theorem q3049 : (Jvm.Cond.fieldLink "CompiledHouseModel" (294 : Nat) "CompiledHouseModel" "inFunction" "I") ∈ lw_all := lw_g (lw_at lw_m12 213 rfl) rfl
theorem f_X13_294_12 : xF RX13 294 12 50 := ⟨_, "CompiledHouseModel", rfl, by decide, Or.inl q3049, Or.inl rfl⟩
theorem q3034 : (Jvm.Cond.fieldLink "CompiledHouseModel" (300 : Nat) "CompiledHouseModel" "formals" "I") ∈ lw_all := lw_g (lw_at lw_m12 198 rfl) rfl
theorem f_X13_300_12 : xF RX13 300 12 35 := ⟨_, "CompiledHouseModel", rfl, by decide, Or.inl q3034, Or.inl rfl⟩
theorem q3362 : (Jvm.Cond.methodLink "CompiledHouseModel" (303 : Nat) ({ cls := "CompiledHouseModel", name := "tells", desc := "(I)Z" } : Jvm.MethodName)) ∈ lw_all := lw_g (lw_at lw_m14 46 rfl) rfl
abbrev cX13_tells : ByteArray := prog_39_method_31_code
def yX13_tells : MethodName := ⟨RX13, "tells", "(I)Z"⟩
theorem q3365 : (Jvm.Cond.code ({ cls := "CompiledHouseModel", name := "tells", desc := "(I)Z" } : Jvm.MethodName) prog_39_method_31_code (7 : Nat) (Option.some Jvm.ClassFile.FieldType.boolean)) ∈ lw_all := lw_g (lw_at lw_m14 49 rfl) rfl
def kX13_tells : xK := (yX13_tells, cX13_tells, 7, some .boolean, [])
theorem me_X13_tells : xMe kX13_tells 1 := ⟨q3365, q216, by decide, by decide, by decide +kernel⟩
theorem q3364 : (Jvm.Cond.instanceMethod ({ cls := "CompiledHouseModel", name := "tells", desc := "(I)Z" } : Jvm.MethodName)) ∈ lw_all := lw_g (lw_at lw_m14 48 rfl) rfl
theorem is_X13_tells : Cond.instanceMethod kX13_tells.y ∈ lw_all := q3364
theorem se_X13_tells : Cond.selects RX13 kX13_tells.y kX13_tells.y ∈ lw_all := qs129
theorem lk_X13_303 : xLk RX13 303 yX13_tells := Or.inl q3362
theorem q3060 : (Jvm.Cond.fieldLink "CompiledHouseModel" (306 : Nat) "CompiledHouseModel" "isFunction" "Z") ∈ lw_all := lw_g (lw_at lw_m12 224 rfl) rfl
theorem f_X13_306_12 : xF RX13 306 12 61 := ⟨_, "CompiledHouseModel", rfl, by decide, Or.inl q3060, Or.inl rfl⟩
theorem q3374 : (Jvm.Cond.methodLink "CompiledHouseModel" (260 : Nat) ({ cls := "CompiledHouseModel", name := "fails", desc := "(I)Z" } : Jvm.MethodName)) ∈ lw_all := lw_g (lw_at lw_m14 58 rfl) rfl
abbrev cX13_fails : ByteArray := prog_39_method_17_code
def yX13_fails : MethodName := ⟨RX13, "fails", "(I)Z"⟩
theorem q3377 : (Jvm.Cond.code ({ cls := "CompiledHouseModel", name := "fails", desc := "(I)Z" } : Jvm.MethodName) prog_39_method_17_code (3 : Nat) (Option.some Jvm.ClassFile.FieldType.boolean)) ∈ lw_all := lw_g (lw_at lw_m14 61 rfl) rfl
def kX13_fails : xK := (yX13_fails, cX13_fails, 3, some .boolean, [])
theorem me_X13_fails : xMe kX13_fails 1 := ⟨q3377, q216, by decide, by decide, by decide +kernel⟩
theorem q3376 : (Jvm.Cond.instanceMethod ({ cls := "CompiledHouseModel", name := "fails", desc := "(I)Z" } : Jvm.MethodName)) ∈ lw_all := lw_g (lw_at lw_m14 60 rfl) rfl
theorem is_X13_fails : Cond.instanceMethod kX13_fails.y ∈ lw_all := q3376
theorem se_X13_fails : Cond.selects RX13 kX13_fails.y kX13_fails.y ∈ lw_all := qs132
theorem lk_X13_260 : xLk RX13 260 yX13_fails := Or.inl q3374
theorem q3366 : (Jvm.Cond.methodLink "CompiledHouseModel" (310 : Nat) ({ cls := "CompiledHouseModel", name := "word", desc := "(IZ)Z" } : Jvm.MethodName)) ∈ lw_all := lw_g (lw_at lw_m14 50 rfl) rfl
abbrev cX13_word : ByteArray := prog_39_method_24_code
def yX13_word : MethodName := ⟨RX13, "word", "(IZ)Z"⟩
theorem q3369 : (Jvm.Cond.code ({ cls := "CompiledHouseModel", name := "word", desc := "(IZ)Z" } : Jvm.MethodName) prog_39_method_24_code (3 : Nat) (Option.some Jvm.ClassFile.FieldType.boolean)) ∈ lw_all := lw_g (lw_at lw_m14 53 rfl) rfl
def kX13_word : xK := (yX13_word, cX13_word, 3, some .boolean, [])
theorem me_X13_word : xMe kX13_word 2 := ⟨q3369, q216, by decide, by decide, by decide +kernel⟩
theorem q3368 : (Jvm.Cond.instanceMethod ({ cls := "CompiledHouseModel", name := "word", desc := "(IZ)Z" } : Jvm.MethodName)) ∈ lw_all := lw_g (lw_at lw_m14 52 rfl) rfl
theorem is_X13_word : Cond.instanceMethod kX13_word.y ∈ lw_all := q3368
theorem se_X13_word : Cond.selects RX13 kX13_word.y kX13_word.y ∈ lw_all := qs130
theorem lk_X13_310 : xLk RX13 310 yX13_word := Or.inl q3366
theorem q3378 : (Jvm.Cond.methodLink "CompiledHouseModel" (314 : Nat) ({ cls := "CompiledHouseModel", name := "constantTold", desc := "()Z" } : Jvm.MethodName)) ∈ lw_all := lw_g (lw_at lw_m14 62 rfl) rfl
abbrev cX13_constantTold : ByteArray := prog_39_method_32_code
def yX13_constantTold : MethodName := ⟨RX13, "constantTold", "()Z"⟩
theorem q3381 : (Jvm.Cond.code ({ cls := "CompiledHouseModel", name := "constantTold", desc := "()Z" } : Jvm.MethodName) prog_39_method_32_code (4 : Nat) (Option.some Jvm.ClassFile.FieldType.boolean)) ∈ lw_all := lw_g (lw_at lw_m14 65 rfl) rfl
def kX13_constantTold : xK := (yX13_constantTold, cX13_constantTold, 4, some .boolean, [])
theorem me_X13_constantTold : xMe kX13_constantTold 0 := ⟨q3381, q216, by decide, by decide, by decide +kernel⟩
theorem q3380 : (Jvm.Cond.instanceMethod ({ cls := "CompiledHouseModel", name := "constantTold", desc := "()Z" } : Jvm.MethodName)) ∈ lw_all := lw_g (lw_at lw_m14 64 rfl) rfl
theorem is_X13_constantTold : Cond.instanceMethod kX13_constantTold.y ∈ lw_all := q3380
theorem se_X13_constantTold : Cond.selects RX13 kX13_constantTold.y kX13_constantTold.y ∈ lw_all := qs133
theorem lk_X13_314 : xLk RX13 314 yX13_constantTold := Or.inl q3378
theorem q3370 : (Jvm.Cond.methodLink "CompiledHouseModel" (263 : Nat) ({ cls := "CompiledHouseModel", name := "isWord", desc := "(I)Z" } : Jvm.MethodName)) ∈ lw_all := lw_g (lw_at lw_m14 54 rfl) rfl
abbrev cX13_isWord : ByteArray := prog_39_method_22_code
def yX13_isWord : MethodName := ⟨RX13, "isWord", "(I)Z"⟩
theorem q3373 : (Jvm.Cond.code ({ cls := "CompiledHouseModel", name := "isWord", desc := "(I)Z" } : Jvm.MethodName) prog_39_method_22_code (2 : Nat) (Option.some Jvm.ClassFile.FieldType.boolean)) ∈ lw_all := lw_g (lw_at lw_m14 57 rfl) rfl
def kX13_isWord : xK := (yX13_isWord, cX13_isWord, 2, some .boolean, [])
theorem me_X13_isWord : xMe kX13_isWord 1 := ⟨q3373, q216, by decide, by decide, by decide +kernel⟩
theorem q3372 : (Jvm.Cond.instanceMethod ({ cls := "CompiledHouseModel", name := "isWord", desc := "(I)Z" } : Jvm.MethodName)) ∈ lw_all := lw_g (lw_at lw_m14 56 rfl) rfl
theorem is_X13_isWord : Cond.instanceMethod kX13_isWord.y ∈ lw_all := q3372
theorem se_X13_isWord : Cond.selects RX13 kX13_isWord.y kX13_isWord.y ∈ lw_all := qs131
theorem lk_X13_263 : xLk RX13 263 yX13_isWord := Or.inl q3370
theorem q3382 : (Jvm.Cond.methodLink "CompiledHouseModel" (317 : Nat) ({ cls := "CompiledHouseModel", name := "name", desc := "()I" } : Jvm.MethodName)) ∈ lw_all := lw_g (lw_at lw_m14 66 rfl) rfl
abbrev cX13_name : ByteArray := prog_39_method_25_code
def yX13_name : MethodName := ⟨RX13, "name", "()I"⟩
theorem q3385 : (Jvm.Cond.code ({ cls := "CompiledHouseModel", name := "name", desc := "()I" } : Jvm.MethodName) prog_39_method_25_code (1 : Nat) (Option.some Jvm.ClassFile.FieldType.int)) ∈ lw_all := lw_g (lw_at lw_m14 69 rfl) rfl
def kX13_name : xK := (yX13_name, cX13_name, 1, some .int, [])
theorem me_X13_name : xMe kX13_name 0 := ⟨q3385, q216, by decide, by decide, by decide +kernel⟩
theorem q3384 : (Jvm.Cond.instanceMethod ({ cls := "CompiledHouseModel", name := "name", desc := "()I" } : Jvm.MethodName)) ∈ lw_all := lw_g (lw_at lw_m14 68 rfl) rfl
theorem is_X13_name : Cond.instanceMethod kX13_name.y ∈ lw_all := q3384
theorem se_X13_name : Cond.selects RX13 kX13_name.y kX13_name.y ∈ lw_all := qs134
theorem lk_X13_317 : xLk RX13 317 yX13_name := Or.inl q3382
theorem q3390 : (Jvm.Cond.methodLink "CompiledHouseModel" (257 : Nat) ({ cls := "CompiledHouseModel", name := "isSign", desc := "(I)Z" } : Jvm.MethodName)) ∈ lw_all := lw_g (lw_at lw_m14 74 rfl) rfl
abbrev cX13_isSign : ByteArray := prog_39_method_21_code
def yX13_isSign : MethodName := ⟨RX13, "isSign", "(I)Z"⟩
theorem q3393 : (Jvm.Cond.code ({ cls := "CompiledHouseModel", name := "isSign", desc := "(I)Z" } : Jvm.MethodName) prog_39_method_21_code (2 : Nat) (Option.some Jvm.ClassFile.FieldType.boolean)) ∈ lw_all := lw_g (lw_at lw_m14 77 rfl) rfl
def kX13_isSign : xK := (yX13_isSign, cX13_isSign, 2, some .boolean, [])
theorem me_X13_isSign : xMe kX13_isSign 1 := ⟨q3393, q216, by decide, by decide, by decide +kernel⟩
theorem q3392 : (Jvm.Cond.instanceMethod ({ cls := "CompiledHouseModel", name := "isSign", desc := "(I)Z" } : Jvm.MethodName)) ∈ lw_all := lw_g (lw_at lw_m14 76 rfl) rfl
theorem is_X13_isSign : Cond.instanceMethod kX13_isSign.y ∈ lw_all := q3392
theorem se_X13_isSign : Cond.selects RX13 kX13_isSign.y kX13_isSign.y ∈ lw_all := qs136
theorem lk_X13_257 : xLk RX13 257 yX13_isSign := Or.inl q3390
theorem q3502 : (Jvm.Cond.methodLink "CompiledHouseModel" (320 : Nat) ({ cls := "CompiledHouseModel", name := "function", desc := "(IIZ)Z" } : Jvm.MethodName)) ∈ lw_all := lw_g (lw_at lw_m14 186 rfl) rfl
abbrev cX13_function : ByteArray := prog_39_method_43_code
def yX13_function : MethodName := ⟨RX13, "function", "(IIZ)Z"⟩
theorem q3505 : (Jvm.Cond.code ({ cls := "CompiledHouseModel", name := "function", desc := "(IIZ)Z" } : Jvm.MethodName) prog_39_method_43_code (8 : Nat) (Option.some Jvm.ClassFile.FieldType.boolean)) ∈ lw_all := lw_g (lw_at lw_m14 189 rfl) rfl
def kX13_function : xK := (yX13_function, cX13_function, 8, some .boolean, [])
theorem me_X13_function : xMe kX13_function 3 := ⟨q3505, q216, by decide, by decide, by decide +kernel⟩
theorem q3504 : (Jvm.Cond.instanceMethod ({ cls := "CompiledHouseModel", name := "function", desc := "(IIZ)Z" } : Jvm.MethodName)) ∈ lw_all := lw_g (lw_at lw_m14 188 rfl) rfl
theorem is_X13_function : Cond.instanceMethod kX13_function.y ∈ lw_all := q3504
theorem se_X13_function : Cond.selects RX13 kX13_function.y kX13_function.y ∈ lw_all := qs160
theorem lk_X13_320 : xLk RX13 320 yX13_function := Or.inl q3502
theorem q3578 : (Jvm.Cond.methodLink "CompiledHouseModel" (324 : Nat) ({ cls := "CompiledHouseModel", name := "globalInt", desc := "(I)Z" } : Jvm.MethodName)) ∈ lw_all := lw_g (lw_at lw_m15 22 rfl) rfl
abbrev cX13_globalInt : ByteArray := prog_39_method_33_code
def yX13_globalInt : MethodName := ⟨RX13, "globalInt", "(I)Z"⟩
theorem q3581 : (Jvm.Cond.code ({ cls := "CompiledHouseModel", name := "globalInt", desc := "(I)Z" } : Jvm.MethodName) prog_39_method_33_code (3 : Nat) (Option.some Jvm.ClassFile.FieldType.boolean)) ∈ lw_all := lw_g (lw_at lw_m15 25 rfl) rfl
def kX13_globalInt : xK := (yX13_globalInt, cX13_globalInt, 3, some .boolean, [])
theorem me_X13_globalInt : xMe kX13_globalInt 1 := ⟨q3581, q216, by decide, by decide, by decide +kernel⟩
theorem q3580 : (Jvm.Cond.instanceMethod ({ cls := "CompiledHouseModel", name := "globalInt", desc := "(I)Z" } : Jvm.MethodName)) ∈ lw_all := lw_g (lw_at lw_m15 24 rfl) rfl
theorem is_X13_globalInt : Cond.instanceMethod kX13_globalInt.y ∈ lw_all := q3580
theorem se_X13_globalInt : Cond.selects RX13 kX13_globalInt.y kX13_globalInt.y ∈ lw_all := qs179
theorem lk_X13_324 : xLk RX13 324 yX13_globalInt := Or.inl q3578
theorem q3386 : (Jvm.Cond.methodLink "CompiledHouseModel" (273 : Nat) ({ cls := "CompiledHouseModel", name := "sign", desc := "(I)Z" } : Jvm.MethodName)) ∈ lw_all := lw_g (lw_at lw_m14 70 rfl) rfl
abbrev cX13_sign : ByteArray := prog_39_method_23_code
def yX13_sign : MethodName := ⟨RX13, "sign", "(I)Z"⟩
theorem q3389 : (Jvm.Cond.code ({ cls := "CompiledHouseModel", name := "sign", desc := "(I)Z" } : Jvm.MethodName) prog_39_method_23_code (2 : Nat) (Option.some Jvm.ClassFile.FieldType.boolean)) ∈ lw_all := lw_g (lw_at lw_m14 73 rfl) rfl
def kX13_sign : xK := (yX13_sign, cX13_sign, 2, some .boolean, [])
theorem me_X13_sign : xMe kX13_sign 1 := ⟨q3389, q216, by decide, by decide, by decide +kernel⟩
theorem q3388 : (Jvm.Cond.instanceMethod ({ cls := "CompiledHouseModel", name := "sign", desc := "(I)Z" } : Jvm.MethodName)) ∈ lw_all := lw_g (lw_at lw_m14 72 rfl) rfl
theorem is_X13_sign : Cond.instanceMethod kX13_sign.y ∈ lw_all := q3388
theorem se_X13_sign : Cond.selects RX13 kX13_sign.y kX13_sign.y ∈ lw_all := qs135
theorem lk_X13_273 : xLk RX13 273 yX13_sign := Or.inl q3386
theorem q3582 : (Jvm.Cond.methodLink "CompiledHouseModel" (327 : Nat) ({ cls := "CompiledHouseModel", name := "globalAt", desc := "(I)I" } : Jvm.MethodName)) ∈ lw_all := lw_g (lw_at lw_m15 26 rfl) rfl
abbrev cX13_globalAt : ByteArray := prog_39_method_34_code
def yX13_globalAt : MethodName := ⟨RX13, "globalAt", "(I)I"⟩
theorem q3585 : (Jvm.Cond.code ({ cls := "CompiledHouseModel", name := "globalAt", desc := "(I)I" } : Jvm.MethodName) prog_39_method_34_code (3 : Nat) (Option.some Jvm.ClassFile.FieldType.int)) ∈ lw_all := lw_g (lw_at lw_m15 29 rfl) rfl
def kX13_globalAt : xK := (yX13_globalAt, cX13_globalAt, 3, some .int, [])
theorem me_X13_globalAt : xMe kX13_globalAt 1 := ⟨q3585, q216, by decide, by decide, by decide +kernel⟩
theorem q3584 : (Jvm.Cond.instanceMethod ({ cls := "CompiledHouseModel", name := "globalAt", desc := "(I)I" } : Jvm.MethodName)) ∈ lw_all := lw_g (lw_at lw_m15 28 rfl) rfl
theorem is_X13_globalAt : Cond.instanceMethod kX13_globalAt.y ∈ lw_all := q3584
theorem se_X13_globalAt : Cond.selects RX13 kX13_globalAt.y kX13_globalAt.y ∈ lw_all := qs180
theorem lk_X13_327 : xLk RX13 327 yX13_globalAt := Or.inl q3582
theorem q3394 : (Jvm.Cond.methodLink "CompiledHouseModel" (330 : Nat) ({ cls := "CompiledHouseModel", name := "value", desc := "()I" } : Jvm.MethodName)) ∈ lw_all := lw_g (lw_at lw_m14 78 rfl) rfl
abbrev cX13_value : ByteArray := prog_39_method_37_code
def yX13_value : MethodName := ⟨RX13, "value", "()I"⟩
theorem q3397 : (Jvm.Cond.code ({ cls := "CompiledHouseModel", name := "value", desc := "()I" } : Jvm.MethodName) prog_39_method_37_code (4 : Nat) (Option.some Jvm.ClassFile.FieldType.int)) ∈ lw_all := lw_g (lw_at lw_m14 81 rfl) rfl
def kX13_value : xK := (yX13_value, cX13_value, 4, some .int, [])
theorem me_X13_value : xMe kX13_value 0 := ⟨q3397, q216, by decide, by decide, by decide +kernel⟩
theorem q3396 : (Jvm.Cond.instanceMethod ({ cls := "CompiledHouseModel", name := "value", desc := "()I" } : Jvm.MethodName)) ∈ lw_all := lw_g (lw_at lw_m14 80 rfl) rfl
theorem is_X13_value : Cond.instanceMethod kX13_value.y ∈ lw_all := q3396
theorem se_X13_value : Cond.selects RX13 kX13_value.y kX13_value.y ∈ lw_all := qs137
theorem lk_X13_330 : xLk RX13 330 yX13_value := Or.inl q3394
theorem q3586 : (Jvm.Cond.methodLink "CompiledHouseModel" (333 : Nat) ({ cls := "java/lang/Math", name := "min", desc := "(II)I" } : Jvm.MethodName)) ∈ lw_all := lw_g (lw_at lw_m15 30 rfl) rfl
theorem lk_X13_333 : xLk RX13 333 yJ11_min := Or.inl q3586
theorem q3498 : (Jvm.Cond.methodLink "CompiledHouseModel" (338 : Nat) ({ cls := "CompiledHouseModel", name := "declare", desc := "(IIZIIZ)V" } : Jvm.MethodName)) ∈ lw_all := lw_g (lw_at lw_m14 182 rfl) rfl
abbrev cX13_declare : ByteArray := prog_39_method_39_code
def yX13_declare : MethodName := ⟨RX13, "declare", "(IIZIIZ)V"⟩
theorem q3501 : (Jvm.Cond.code ({ cls := "CompiledHouseModel", name := "declare", desc := "(IIZIIZ)V" } : Jvm.MethodName) prog_39_method_39_code (7 : Nat) (Option.none : Option Jvm.ClassFile.FieldType)) ∈ lw_all := lw_g (lw_at lw_m14 185 rfl) rfl
def kX13_declare : xK := (yX13_declare, cX13_declare, 7, none, [])
theorem me_X13_declare : xMe kX13_declare 6 := ⟨q3501, q216, by decide, by decide, by decide +kernel⟩
theorem q3500 : (Jvm.Cond.instanceMethod ({ cls := "CompiledHouseModel", name := "declare", desc := "(IIZIIZ)V" } : Jvm.MethodName)) ∈ lw_all := lw_g (lw_at lw_m14 184 rfl) rfl
theorem is_X13_declare : Cond.instanceMethod kX13_declare.y ∈ lw_all := q3500
theorem se_X13_declare : Cond.selects RX13 kX13_declare.y kX13_declare.y ∈ lw_all := qs159
theorem lk_X13_338 : xLk RX13 338 yX13_declare := Or.inl q3498
theorem q3587 : (Jvm.Cond.methodLink "CompiledHouseModel" (342 : Nat) ({ cls := "CompiledHouseModel", name := "array", desc := "(IZ)Z" } : Jvm.MethodName)) ∈ lw_all := lw_g (lw_at lw_m15 31 rfl) rfl
abbrev cX13_array : ByteArray := prog_39_method_35_code
def yX13_array : MethodName := ⟨RX13, "array", "(IZ)Z"⟩
theorem q3590 : (Jvm.Cond.code ({ cls := "CompiledHouseModel", name := "array", desc := "(IZ)Z" } : Jvm.MethodName) prog_39_method_35_code (12 : Nat) (Option.some Jvm.ClassFile.FieldType.boolean)) ∈ lw_all := lw_g (lw_at lw_m15 34 rfl) rfl
def kX13_array : xK := (yX13_array, cX13_array, 12, some .boolean, [])
theorem me_X13_array : xMe kX13_array 2 := ⟨q3590, q216, by decide, by decide, by decide +kernel⟩
theorem q3589 : (Jvm.Cond.instanceMethod ({ cls := "CompiledHouseModel", name := "array", desc := "(IZ)Z" } : Jvm.MethodName)) ∈ lw_all := lw_g (lw_at lw_m15 33 rfl) rfl
theorem is_X13_array : Cond.instanceMethod kX13_array.y ∈ lw_all := q3589
theorem se_X13_array : Cond.selects RX13 kX13_array.y kX13_array.y ∈ lw_all := qs181
theorem lk_X13_342 : xLk RX13 342 yX13_array := Or.inl q3587
theorem q3054 : (Jvm.Cond.fieldLink "CompiledHouseModel" (345 : Nat) "CompiledHouseModel" "hasNone" "Z") ∈ lw_all := lw_g (lw_at lw_m12 218 rfl) rfl
theorem f_X13_345_12 : xF RX13 345 12 55 := ⟨_, "CompiledHouseModel", rfl, by decide, Or.inl q3054, Or.inl rfl⟩
theorem q3494 : (Jvm.Cond.methodLink "CompiledHouseModel" (348 : Nat) ({ cls := "CompiledHouseModel", name := "twice", desc := "(I)V" } : Jvm.MethodName)) ∈ lw_all := lw_g (lw_at lw_m14 178 rfl) rfl
abbrev cX13_twice : ByteArray := prog_39_method_38_code
def yX13_twice : MethodName := ⟨RX13, "twice", "(I)V"⟩
theorem q3497 : (Jvm.Cond.code ({ cls := "CompiledHouseModel", name := "twice", desc := "(I)V" } : Jvm.MethodName) prog_39_method_38_code (4 : Nat) (Option.none : Option Jvm.ClassFile.FieldType)) ∈ lw_all := lw_g (lw_at lw_m14 181 rfl) rfl
def kX13_twice : xK := (yX13_twice, cX13_twice, 4, none, [])
theorem me_X13_twice : xMe kX13_twice 1 := ⟨q3497, q216, by decide, by decide, by decide +kernel⟩
theorem q3496 : (Jvm.Cond.instanceMethod ({ cls := "CompiledHouseModel", name := "twice", desc := "(I)V" } : Jvm.MethodName)) ∈ lw_all := lw_g (lw_at lw_m14 180 rfl) rfl
theorem is_X13_twice : Cond.instanceMethod kX13_twice.y ∈ lw_all := q3496
theorem se_X13_twice : Cond.selects RX13 kX13_twice.y kX13_twice.y ∈ lw_all := qs158
theorem lk_X13_348 : xLk RX13 348 yX13_twice := Or.inl q3494
theorem q3398 : (Jvm.Cond.methodLink "CompiledHouseModel" (368 : Nat) ({ cls := "CompiledHouseModel", name := "expression", desc := "()Z" } : Jvm.MethodName)) ∈ lw_all := lw_g (lw_at lw_m14 82 rfl) rfl
abbrev cX13_expression : ByteArray := prog_39_method_60_code
def yX13_expression : MethodName := ⟨RX13, "expression", "()Z"⟩
theorem q3401 : (Jvm.Cond.code ({ cls := "CompiledHouseModel", name := "expression", desc := "()Z" } : Jvm.MethodName) prog_39_method_60_code (3 : Nat) (Option.some Jvm.ClassFile.FieldType.boolean)) ∈ lw_all := lw_g (lw_at lw_m14 85 rfl) rfl
def kX13_expression : xK := (yX13_expression, cX13_expression, 3, some .boolean, [])
theorem me_X13_expression : xMe kX13_expression 0 := ⟨q3401, q216, by decide, by decide, by decide +kernel⟩
theorem q3400 : (Jvm.Cond.instanceMethod ({ cls := "CompiledHouseModel", name := "expression", desc := "()Z" } : Jvm.MethodName)) ∈ lw_all := lw_g (lw_at lw_m14 84 rfl) rfl
theorem is_X13_expression : Cond.instanceMethod kX13_expression.y ∈ lw_all := q3400
theorem se_X13_expression : Cond.selects RX13 kX13_expression.y kX13_expression.y ∈ lw_all := qs138
theorem lk_X13_368 : xLk RX13 368 yX13_expression := Or.inl q3398
theorem q3473 : (Jvm.Cond.methodLink "CompiledHouseModel" (371 : Nat) ({ cls := "CompiledHouseModel", name := "reckon", desc := "(I)I" } : Jvm.MethodName)) ∈ lw_all := lw_g (lw_at lw_m14 157 rfl) rfl
abbrev cX13_reckon : ByteArray := prog_39_method_75_code
def yX13_reckon : MethodName := ⟨RX13, "reckon", "(I)I"⟩
theorem q3476 : (Jvm.Cond.code ({ cls := "CompiledHouseModel", name := "reckon", desc := "(I)I" } : Jvm.MethodName) prog_39_method_75_code (3 : Nat) (Option.some Jvm.ClassFile.FieldType.int)) ∈ lw_all := lw_g (lw_at lw_m14 160 rfl) rfl
def kX13_reckon : xK := (yX13_reckon, cX13_reckon, 3, some .int, [])
theorem me_X13_reckon : xMe kX13_reckon 1 := ⟨q3476, q216, by decide, by decide, by decide +kernel⟩
theorem q3475 : (Jvm.Cond.instanceMethod ({ cls := "CompiledHouseModel", name := "reckon", desc := "(I)I" } : Jvm.MethodName)) ∈ lw_all := lw_g (lw_at lw_m14 159 rfl) rfl
theorem is_X13_reckon : Cond.instanceMethod kX13_reckon.y ∈ lw_all := q3475
theorem se_X13_reckon : Cond.selects RX13 kX13_reckon.y kX13_reckon.y ∈ lw_all := qs156
theorem lk_X13_371 : xLk RX13 371 yX13_reckon := Or.inl q3473
theorem q3402 : (Jvm.Cond.methodLink "CompiledHouseModel" (463 : Nat) ({ cls := "CompiledHouseModel", name := "chain", desc := "()Z" } : Jvm.MethodName)) ∈ lw_all := lw_g (lw_at lw_m14 86 rfl) rfl
abbrev cX13_chain : ByteArray := prog_39_method_62_code
def yX13_chain : MethodName := ⟨RX13, "chain", "()Z"⟩
theorem q3405 : (Jvm.Cond.code ({ cls := "CompiledHouseModel", name := "chain", desc := "()Z" } : Jvm.MethodName) prog_39_method_62_code (4 : Nat) (Option.some Jvm.ClassFile.FieldType.boolean)) ∈ lw_all := lw_g (lw_at lw_m14 89 rfl) rfl
def kX13_chain : xK := (yX13_chain, cX13_chain, 4, some .boolean, [])
theorem me_X13_chain : xMe kX13_chain 0 := ⟨q3405, q216, by decide, by decide, by decide +kernel⟩
theorem q3404 : (Jvm.Cond.instanceMethod ({ cls := "CompiledHouseModel", name := "chain", desc := "()Z" } : Jvm.MethodName)) ∈ lw_all := lw_g (lw_at lw_m14 88 rfl) rfl
theorem is_X13_chain : Cond.instanceMethod kX13_chain.y ∈ lw_all := q3404
theorem se_X13_chain : Cond.selects RX13 kX13_chain.y kX13_chain.y ∈ lw_all := qs139
theorem lk_X13_463 : xLk RX13 463 yX13_chain := Or.inl q3402
theorem q3418 : (Jvm.Cond.methodLink "CompiledHouseModel" (269 : Nat) ({ cls := "CompiledHouseModel", name := "opens", desc := "()Z" } : Jvm.MethodName)) ∈ lw_all := lw_g (lw_at lw_m14 102 rfl) rfl
abbrev cX13_opens : ByteArray := prog_39_method_26_code
def yX13_opens : MethodName := ⟨RX13, "opens", "()Z"⟩
theorem q3421 : (Jvm.Cond.code ({ cls := "CompiledHouseModel", name := "opens", desc := "()Z" } : Jvm.MethodName) prog_39_method_26_code (1 : Nat) (Option.some Jvm.ClassFile.FieldType.boolean)) ∈ lw_all := lw_g (lw_at lw_m14 105 rfl) rfl
def kX13_opens : xK := (yX13_opens, cX13_opens, 1, some .boolean, [])
theorem me_X13_opens : xMe kX13_opens 0 := ⟨q3421, q216, by decide, by decide, by decide +kernel⟩
theorem q3420 : (Jvm.Cond.instanceMethod ({ cls := "CompiledHouseModel", name := "opens", desc := "()Z" } : Jvm.MethodName)) ∈ lw_all := lw_g (lw_at lw_m14 104 rfl) rfl
theorem is_X13_opens : Cond.instanceMethod kX13_opens.y ∈ lw_all := q3420
theorem se_X13_opens : Cond.selects RX13 kX13_opens.y kX13_opens.y ∈ lw_all := qs143
theorem lk_X13_269 : xLk RX13 269 yX13_opens := Or.inl q3418
theorem q3414 : (Jvm.Cond.methodLink "CompiledHouseModel" (401 : Nat) ({ cls := "CompiledHouseModel", name := "step", desc := "(III)I" } : Jvm.MethodName)) ∈ lw_all := lw_g (lw_at lw_m14 98 rfl) rfl
abbrev cX13_step : ByteArray := prog_39_method_29_code
def yX13_step : MethodName := ⟨RX13, "step", "(III)I"⟩
theorem q3417 : (Jvm.Cond.code ({ cls := "CompiledHouseModel", name := "step", desc := "(III)I" } : Jvm.MethodName) prog_39_method_29_code (4 : Nat) (Option.some Jvm.ClassFile.FieldType.int)) ∈ lw_all := lw_g (lw_at lw_m14 101 rfl) rfl
def kX13_step : xK := (yX13_step, cX13_step, 4, some .int, [])
theorem me_X13_step : xMe kX13_step 3 := ⟨q3417, q216, by decide, by decide, by decide +kernel⟩
theorem q3416 : (Jvm.Cond.instanceMethod ({ cls := "CompiledHouseModel", name := "step", desc := "(III)I" } : Jvm.MethodName)) ∈ lw_all := lw_g (lw_at lw_m14 100 rfl) rfl
theorem is_X13_step : Cond.instanceMethod kX13_step.y ∈ lw_all := q3416
theorem se_X13_step : Cond.selects RX13 kX13_step.y kX13_step.y ∈ lw_all := qs142
theorem lk_X13_401 : xLk RX13 401 yX13_step := Or.inl q3414
theorem q3406 : (Jvm.Cond.methodLink "CompiledHouseModel" (466 : Nat) ({ cls := "CompiledHouseModel", name := "operand", desc := "()Z" } : Jvm.MethodName)) ∈ lw_all := lw_g (lw_at lw_m14 90 rfl) rfl
abbrev cX13_operand : ByteArray := prog_39_method_64_code
def yX13_operand : MethodName := ⟨RX13, "operand", "()Z"⟩
theorem q3409 : (Jvm.Cond.code ({ cls := "CompiledHouseModel", name := "operand", desc := "()Z" } : Jvm.MethodName) prog_39_method_64_code (4 : Nat) (Option.some Jvm.ClassFile.FieldType.boolean)) ∈ lw_all := lw_g (lw_at lw_m14 93 rfl) rfl
def kX13_operand : xK := (yX13_operand, cX13_operand, 4, some .boolean, [])
theorem me_X13_operand : xMe kX13_operand 0 := ⟨q3409, q216, by decide, by decide, by decide +kernel⟩
theorem q3408 : (Jvm.Cond.instanceMethod ({ cls := "CompiledHouseModel", name := "operand", desc := "()Z" } : Jvm.MethodName)) ∈ lw_all := lw_g (lw_at lw_m14 92 rfl) rfl
theorem is_X13_operand : Cond.instanceMethod kX13_operand.y ∈ lw_all := q3408
theorem se_X13_operand : Cond.selects RX13 kX13_operand.y kX13_operand.y ∈ lw_all := qs140
theorem lk_X13_466 : xLk RX13 466 yX13_operand := Or.inl q3406
theorem q3465 : (Jvm.Cond.methodLink "CompiledHouseModel" (469 : Nat) ({ cls := "CompiledHouseModel", name := "level", desc := "()I" } : Jvm.MethodName)) ∈ lw_all := lw_g (lw_at lw_m14 149 rfl) rfl
abbrev cX13_level : ByteArray := prog_39_method_61_code
def yX13_level : MethodName := ⟨RX13, "level", "()I"⟩
theorem q3468 : (Jvm.Cond.code ({ cls := "CompiledHouseModel", name := "level", desc := "()I" } : Jvm.MethodName) prog_39_method_61_code (1 : Nat) (Option.some Jvm.ClassFile.FieldType.int)) ∈ lw_all := lw_g (lw_at lw_m14 152 rfl) rfl
def kX13_level : xK := (yX13_level, cX13_level, 1, some .int, [])
theorem me_X13_level : xMe kX13_level 0 := ⟨q3468, q216, by decide, by decide, by decide +kernel⟩
theorem q3467 : (Jvm.Cond.instanceMethod ({ cls := "CompiledHouseModel", name := "level", desc := "()I" } : Jvm.MethodName)) ∈ lw_all := lw_g (lw_at lw_m14 151 rfl) rfl
theorem is_X13_level : Cond.instanceMethod kX13_level.y ∈ lw_all := q3467
theorem se_X13_level : Cond.selects RX13 kX13_level.y kX13_level.y ∈ lw_all := qs154
theorem lk_X13_469 : xLk RX13 469 yX13_level := Or.inl q3465
theorem q3469 : (Jvm.Cond.methodLink "CompiledHouseModel" (472 : Nat) ({ cls := "CompiledHouseModel", name := "binds", desc := "()V" } : Jvm.MethodName)) ∈ lw_all := lw_g (lw_at lw_m14 153 rfl) rfl
abbrev cX13_binds : ByteArray := prog_39_method_63_code
def yX13_binds : MethodName := ⟨RX13, "binds", "()V"⟩
theorem q3472 : (Jvm.Cond.code ({ cls := "CompiledHouseModel", name := "binds", desc := "()V" } : Jvm.MethodName) prog_39_method_63_code (3 : Nat) (Option.none : Option Jvm.ClassFile.FieldType)) ∈ lw_all := lw_g (lw_at lw_m14 156 rfl) rfl
def kX13_binds : xK := (yX13_binds, cX13_binds, 3, none, [])
theorem me_X13_binds : xMe kX13_binds 0 := ⟨q3472, q216, by decide, by decide, by decide +kernel⟩
theorem q3471 : (Jvm.Cond.instanceMethod ({ cls := "CompiledHouseModel", name := "binds", desc := "()V" } : Jvm.MethodName)) ∈ lw_all := lw_g (lw_at lw_m14 155 rfl) rfl
theorem is_X13_binds : Cond.instanceMethod kX13_binds.y ∈ lw_all := q3471
theorem se_X13_binds : Cond.selects RX13 kX13_binds.y kX13_binds.y ∈ lw_all := qs155
theorem lk_X13_472 : xLk RX13 472 yX13_binds := Or.inl q3469
theorem dX13_nameOf_0 : decode cX13_nameOf 0 = .ok (.aload_n 0, 1) := by decide +kernel
theorem dX13_nameOf_1 : decode cX13_nameOf 1 = .ok (.iload_n 1, 1) := by decide +kernel
theorem dX13_nameOf_2 : decode cX13_nameOf 2 = .ok (.invokevirtual 177, 3) := by decide +kernel
theorem dX13_nameOf_5 : decode cX13_nameOf 5 = .ok (.bipush 7, 2) := by decide +kernel
theorem dX13_nameOf_7 : decode cX13_nameOf 7 = .ok (.imul, 1) := by decide +kernel
theorem dX13_nameOf_8 : decode cX13_nameOf 8 = .ok (.aload_n 0, 1) := by decide +kernel
theorem dX13_nameOf_9 : decode cX13_nameOf 9 = .ok (.iload_n 1, 1) := by decide +kernel
theorem dX13_nameOf_10 : decode cX13_nameOf 10 = .ok (.iload_n 2, 1) := by decide +kernel
theorem dX13_nameOf_11 : decode cX13_nameOf 11 = .ok (.iadd, 1) := by decide +kernel
theorem dX13_nameOf_12 : decode cX13_nameOf 12 = .ok (.iconst 1, 1) := by decide +kernel
theorem dX13_nameOf_13 : decode cX13_nameOf 13 = .ok (.isub, 1) := by decide +kernel
theorem dX13_nameOf_14 : decode cX13_nameOf 14 = .ok (.invokevirtual 177, 3) := by decide +kernel
theorem dX13_nameOf_17 : decode cX13_nameOf 17 = .ok (.iconst 3, 1) := by decide +kernel
theorem dX13_nameOf_18 : decode cX13_nameOf 18 = .ok (.imul, 1) := by decide +kernel
theorem dX13_nameOf_19 : decode cX13_nameOf 19 = .ok (.iadd, 1) := by decide +kernel
theorem dX13_nameOf_20 : decode cX13_nameOf 20 = .ok (.iload_n 2, 1) := by decide +kernel
theorem dX13_nameOf_21 : decode cX13_nameOf 21 = .ok (.iadd, 1) := by decide +kernel
theorem dX13_nameOf_22 : decode cX13_nameOf 22 = .ok (.bipush 64, 2) := by decide +kernel
theorem dX13_nameOf_24 : decode cX13_nameOf 24 = .ok (.irem, 1) := by decide +kernel
theorem dX13_nameOf_25 : decode cX13_nameOf 25 = .ok (.istore_n 3, 1) := by decide +kernel
theorem dX13_nameOf_26 : decode cX13_nameOf 26 = .ok (.aload_n 0, 1) := by decide +kernel
theorem dX13_nameOf_27 : decode cX13_nameOf 27 = .ok (.getfield 34, 3) := by decide +kernel
theorem dX13_nameOf_30 : decode cX13_nameOf 30 = .ok (.iload_n 3, 1) := by decide +kernel
theorem dX13_nameOf_31 : decode cX13_nameOf 31 = .ok (.iaload, 1) := by decide +kernel
theorem dX13_nameOf_32 : decode cX13_nameOf 32 = .ok (.istore 4, 2) := by decide +kernel
theorem dX13_nameOf_34 : decode cX13_nameOf 34 = .ok (.iload 4, 2) := by decide +kernel
theorem dX13_nameOf_36 : decode cX13_nameOf 36 = .ok (.iconst (-1), 1) := by decide +kernel
theorem dX13_nameOf_37 : decode cX13_nameOf 37 = .ok (.if_icmp .eq 93, 3) := by decide +kernel
theorem dX13_nameOf_40 : decode cX13_nameOf 40 = .ok (.aload_n 0, 1) := by decide +kernel
theorem dX13_nameOf_41 : decode cX13_nameOf 41 = .ok (.getfield 28, 3) := by decide +kernel
theorem dX13_nameOf_44 : decode cX13_nameOf 44 = .ok (.iload 4, 2) := by decide +kernel
theorem dX13_nameOf_46 : decode cX13_nameOf 46 = .ok (.iaload, 1) := by decide +kernel
theorem dX13_nameOf_47 : decode cX13_nameOf 47 = .ok (.iload_n 2, 1) := by decide +kernel
theorem dX13_nameOf_48 : decode cX13_nameOf 48 = .ok (.if_icmp .ne 7, 3) := by decide +kernel
theorem dX13_nameOf_51 : decode cX13_nameOf 51 = .ok (.iconst 1, 1) := by decide +kernel
theorem dX13_nameOf_52 : decode cX13_nameOf 52 = .ok (.goto 4, 3) := by decide +kernel
theorem dX13_nameOf_55 : decode cX13_nameOf 55 = .ok (.iconst 0, 1) := by decide +kernel
theorem dX13_nameOf_56 : decode cX13_nameOf 56 = .ok (.istore 5, 2) := by decide +kernel
theorem dX13_nameOf_58 : decode cX13_nameOf 58 = .ok (.iconst 0, 1) := by decide +kernel
theorem dX13_nameOf_59 : decode cX13_nameOf 59 = .ok (.istore 6, 2) := by decide +kernel
theorem dX13_nameOf_61 : decode cX13_nameOf 61 = .ok (.iload 6, 2) := by decide +kernel
theorem dX13_nameOf_63 : decode cX13_nameOf 63 = .ok (.iload_n 2, 1) := by decide +kernel
theorem dX13_nameOf_64 : decode cX13_nameOf 64 = .ok (.if_icmp .ge 46, 3) := by decide +kernel
theorem dX13_nameOf_67 : decode cX13_nameOf 67 = .ok (.iload 5, 2) := by decide +kernel
theorem dX13_nameOf_69 : decode cX13_nameOf 69 = .ok (.ifCond .eq 41, 3) := by decide +kernel
theorem dX13_nameOf_72 : decode cX13_nameOf 72 = .ok (.aload_n 0, 1) := by decide +kernel
theorem dX13_nameOf_73 : decode cX13_nameOf 73 = .ok (.aload_n 0, 1) := by decide +kernel
theorem dX13_nameOf_74 : decode cX13_nameOf 74 = .ok (.getfield 25, 3) := by decide +kernel
theorem dX13_nameOf_77 : decode cX13_nameOf 77 = .ok (.iload 4, 2) := by decide +kernel
theorem dX13_nameOf_79 : decode cX13_nameOf 79 = .ok (.iaload, 1) := by decide +kernel
theorem dX13_nameOf_80 : decode cX13_nameOf 80 = .ok (.iload 6, 2) := by decide +kernel
theorem dX13_nameOf_82 : decode cX13_nameOf 82 = .ok (.iadd, 1) := by decide +kernel
theorem dX13_nameOf_83 : decode cX13_nameOf 83 = .ok (.invokevirtual 177, 3) := by decide +kernel
theorem dX13_nameOf_86 : decode cX13_nameOf 86 = .ok (.aload_n 0, 1) := by decide +kernel
theorem dX13_nameOf_87 : decode cX13_nameOf 87 = .ok (.iload_n 1, 1) := by decide +kernel
theorem dX13_nameOf_88 : decode cX13_nameOf 88 = .ok (.iload 6, 2) := by decide +kernel
theorem dX13_nameOf_90 : decode cX13_nameOf 90 = .ok (.iadd, 1) := by decide +kernel
theorem dX13_nameOf_91 : decode cX13_nameOf 91 = .ok (.invokevirtual 177, 3) := by decide +kernel
theorem dX13_nameOf_94 : decode cX13_nameOf 94 = .ok (.if_icmp .ne 7, 3) := by decide +kernel
theorem dX13_nameOf_97 : decode cX13_nameOf 97 = .ok (.iconst 1, 1) := by decide +kernel
theorem dX13_nameOf_98 : decode cX13_nameOf 98 = .ok (.goto 4, 3) := by decide +kernel
theorem dX13_nameOf_101 : decode cX13_nameOf 101 = .ok (.iconst 0, 1) := by decide +kernel
theorem dX13_nameOf_102 : decode cX13_nameOf 102 = .ok (.istore 5, 2) := by decide +kernel
theorem dX13_nameOf_104 : decode cX13_nameOf 104 = .ok (.iinc 6 1, 3) := by decide +kernel
theorem dX13_nameOf_107 : decode cX13_nameOf 107 = .ok (.goto (-46), 3) := by decide +kernel
theorem dX13_nameOf_110 : decode cX13_nameOf 110 = .ok (.iload 5, 2) := by decide +kernel
theorem dX13_nameOf_112 : decode cX13_nameOf 112 = .ok (.ifCond .eq 6, 3) := by decide +kernel
theorem dX13_nameOf_115 : decode cX13_nameOf 115 = .ok (.iload 4, 2) := by decide +kernel
theorem dX13_nameOf_117 : decode cX13_nameOf 117 = .ok (.ireturn, 1) := by decide +kernel
theorem dX13_nameOf_118 : decode cX13_nameOf 118 = .ok (.aload_n 0, 1) := by decide +kernel
theorem dX13_nameOf_119 : decode cX13_nameOf 119 = .ok (.getfield 31, 3) := by decide +kernel
theorem dX13_nameOf_122 : decode cX13_nameOf 122 = .ok (.iload 4, 2) := by decide +kernel
theorem dX13_nameOf_124 : decode cX13_nameOf 124 = .ok (.iaload, 1) := by decide +kernel
theorem dX13_nameOf_125 : decode cX13_nameOf 125 = .ok (.istore 4, 2) := by decide +kernel
theorem dX13_nameOf_127 : decode cX13_nameOf 127 = .ok (.goto (-93), 3) := by decide +kernel
theorem dX13_nameOf_130 : decode cX13_nameOf 130 = .ok (.aload_n 0, 1) := by decide +kernel
theorem dX13_nameOf_131 : decode cX13_nameOf 131 = .ok (.getfield 25, 3) := by decide +kernel
theorem dX13_nameOf_134 : decode cX13_nameOf 134 = .ok (.aload_n 0, 1) := by decide +kernel
theorem dX13_nameOf_135 : decode cX13_nameOf 135 = .ok (.getfield 181, 3) := by decide +kernel
theorem dX13_nameOf_138 : decode cX13_nameOf 138 = .ok (.iload_n 1, 1) := by decide +kernel
theorem dX13_nameOf_139 : decode cX13_nameOf 139 = .ok (.iastore, 1) := by decide +kernel
theorem dX13_nameOf_140 : decode cX13_nameOf 140 = .ok (.aload_n 0, 1) := by decide +kernel
theorem dX13_nameOf_141 : decode cX13_nameOf 141 = .ok (.getfield 28, 3) := by decide +kernel
theorem dX13_nameOf_144 : decode cX13_nameOf 144 = .ok (.aload_n 0, 1) := by decide +kernel
theorem dX13_nameOf_145 : decode cX13_nameOf 145 = .ok (.getfield 181, 3) := by decide +kernel
theorem dX13_nameOf_148 : decode cX13_nameOf 148 = .ok (.iload_n 2, 1) := by decide +kernel
theorem dX13_nameOf_149 : decode cX13_nameOf 149 = .ok (.iastore, 1) := by decide +kernel
theorem dX13_nameOf_150 : decode cX13_nameOf 150 = .ok (.aload_n 0, 1) := by decide +kernel
theorem dX13_nameOf_151 : decode cX13_nameOf 151 = .ok (.getfield 31, 3) := by decide +kernel
theorem dX13_nameOf_154 : decode cX13_nameOf 154 = .ok (.aload_n 0, 1) := by decide +kernel
theorem dX13_nameOf_155 : decode cX13_nameOf 155 = .ok (.getfield 181, 3) := by decide +kernel
theorem dX13_nameOf_158 : decode cX13_nameOf 158 = .ok (.aload_n 0, 1) := by decide +kernel
theorem dX13_nameOf_159 : decode cX13_nameOf 159 = .ok (.getfield 34, 3) := by decide +kernel
theorem dX13_nameOf_162 : decode cX13_nameOf 162 = .ok (.iload_n 3, 1) := by decide +kernel
theorem dX13_nameOf_163 : decode cX13_nameOf 163 = .ok (.iaload, 1) := by decide +kernel
theorem dX13_nameOf_164 : decode cX13_nameOf 164 = .ok (.iastore, 1) := by decide +kernel
theorem dX13_nameOf_165 : decode cX13_nameOf 165 = .ok (.aload_n 0, 1) := by decide +kernel
theorem dX13_nameOf_166 : decode cX13_nameOf 166 = .ok (.getfield 34, 3) := by decide +kernel
theorem dX13_nameOf_169 : decode cX13_nameOf 169 = .ok (.iload_n 3, 1) := by decide +kernel
theorem dX13_nameOf_170 : decode cX13_nameOf 170 = .ok (.aload_n 0, 1) := by decide +kernel
theorem dX13_nameOf_171 : decode cX13_nameOf 171 = .ok (.getfield 181, 3) := by decide +kernel
theorem dX13_nameOf_174 : decode cX13_nameOf 174 = .ok (.iastore, 1) := by decide +kernel
theorem dX13_nameOf_175 : decode cX13_nameOf 175 = .ok (.aload_n 0, 1) := by decide +kernel
theorem dX13_nameOf_176 : decode cX13_nameOf 176 = .ok (.dup, 1) := by decide +kernel
theorem dX13_nameOf_177 : decode cX13_nameOf 177 = .ok (.getfield 181, 3) := by decide +kernel
theorem dX13_nameOf_180 : decode cX13_nameOf 180 = .ok (.iconst 1, 1) := by decide +kernel
theorem dX13_nameOf_181 : decode cX13_nameOf 181 = .ok (.iadd, 1) := by decide +kernel
theorem dX13_nameOf_182 : decode cX13_nameOf 182 = .ok (.putfield 181, 3) := by decide +kernel
theorem dX13_nameOf_185 : decode cX13_nameOf 185 = .ok (.aload_n 0, 1) := by decide +kernel
theorem dX13_nameOf_186 : decode cX13_nameOf 186 = .ok (.getfield 181, 3) := by decide +kernel
theorem dX13_nameOf_189 : decode cX13_nameOf 189 = .ok (.iconst 1, 1) := by decide +kernel
theorem dX13_nameOf_190 : decode cX13_nameOf 190 = .ok (.isub, 1) := by decide +kernel
theorem dX13_nameOf_191 : decode cX13_nameOf 191 = .ok (.ireturn, 1) := by decide +kernel
theorem dX13_token_0 : decode cX13_token 0 = .ok (.aload_n 0, 1) := by decide +kernel
theorem dX13_token_1 : decode cX13_token 1 = .ok (.getfield 16, 3) := by decide +kernel
theorem dX13_token_4 : decode cX13_token 4 = .ok (.aload_n 0, 1) := by decide +kernel
theorem dX13_token_5 : decode cX13_token 5 = .ok (.getfield 187, 3) := by decide +kernel
theorem dX13_token_8 : decode cX13_token 8 = .ok (.iload_n 1, 1) := by decide +kernel
theorem dX13_token_9 : decode cX13_token 9 = .ok (.iastore, 1) := by decide +kernel
theorem dX13_token_10 : decode cX13_token 10 = .ok (.aload_n 0, 1) := by decide +kernel
theorem dX13_token_11 : decode cX13_token 11 = .ok (.getfield 19, 3) := by decide +kernel
theorem dX13_token_14 : decode cX13_token 14 = .ok (.aload_n 0, 1) := by decide +kernel
theorem dX13_token_15 : decode cX13_token 15 = .ok (.getfield 187, 3) := by decide +kernel
theorem dX13_token_18 : decode cX13_token 18 = .ok (.iload_n 2, 1) := by decide +kernel
theorem dX13_token_19 : decode cX13_token 19 = .ok (.iastore, 1) := by decide +kernel
theorem dX13_token_20 : decode cX13_token 20 = .ok (.aload_n 0, 1) := by decide +kernel
theorem dX13_token_21 : decode cX13_token 21 = .ok (.getfield 22, 3) := by decide +kernel
theorem dX13_token_24 : decode cX13_token 24 = .ok (.aload_n 0, 1) := by decide +kernel
theorem dX13_token_25 : decode cX13_token 25 = .ok (.getfield 187, 3) := by decide +kernel
theorem dX13_token_28 : decode cX13_token 28 = .ok (.iload_n 3, 1) := by decide +kernel
theorem dX13_token_29 : decode cX13_token 29 = .ok (.iastore, 1) := by decide +kernel
theorem dX13_token_30 : decode cX13_token 30 = .ok (.aload_n 0, 1) := by decide +kernel
theorem dX13_token_31 : decode cX13_token 31 = .ok (.dup, 1) := by decide +kernel
theorem dX13_token_32 : decode cX13_token 32 = .ok (.getfield 187, 3) := by decide +kernel
theorem dX13_token_35 : decode cX13_token 35 = .ok (.iconst 1, 1) := by decide +kernel
theorem dX13_token_36 : decode cX13_token 36 = .ok (.iadd, 1) := by decide +kernel
theorem dX13_token_37 : decode cX13_token 37 = .ok (.putfield 187, 3) := by decide +kernel
theorem dX13_token_40 : decode cX13_token 40 = .ok (.return_, 1) := by decide +kernel
theorem dX13_numberToken_0 : decode cX13_numberToken 0 = .ok (.aload_n 0, 1) := by decide +kernel
theorem dX13_numberToken_1 : decode cX13_numberToken 1 = .ok (.iload_n 1, 1) := by decide +kernel
theorem dX13_numberToken_2 : decode cX13_numberToken 2 = .ok (.invokevirtual 177, 3) := by decide +kernel
theorem dX13_numberToken_5 : decode cX13_numberToken 5 = .ok (.bipush 48, 2) := by decide +kernel
theorem dX13_numberToken_7 : decode cX13_numberToken 7 = .ok (.if_icmp .ne 19, 3) := by decide +kernel
theorem dX13_numberToken_10 : decode cX13_numberToken 10 = .ok (.aload_n 0, 1) := by decide +kernel
theorem dX13_numberToken_11 : decode cX13_numberToken 11 = .ok (.iload_n 1, 1) := by decide +kernel
theorem dX13_numberToken_12 : decode cX13_numberToken 12 = .ok (.iconst 1, 1) := by decide +kernel
theorem dX13_numberToken_13 : decode cX13_numberToken 13 = .ok (.iadd, 1) := by decide +kernel
theorem dX13_numberToken_14 : decode cX13_numberToken 14 = .ok (.invokevirtual 177, 3) := by decide +kernel
theorem dX13_numberToken_17 : decode cX13_numberToken 17 = .ok (.bipush 120, 2) := by decide +kernel
theorem dX13_numberToken_19 : decode cX13_numberToken 19 = .ok (.if_icmp .ne 7, 3) := by decide +kernel
theorem dX13_numberToken_22 : decode cX13_numberToken 22 = .ok (.iconst 1, 1) := by decide +kernel
theorem dX13_numberToken_23 : decode cX13_numberToken 23 = .ok (.goto 4, 3) := by decide +kernel
theorem dX13_numberToken_26 : decode cX13_numberToken 26 = .ok (.iconst 0, 1) := by decide +kernel
theorem dX13_numberToken_27 : decode cX13_numberToken 27 = .ok (.istore_n 2, 1) := by decide +kernel
theorem dX13_numberToken_28 : decode cX13_numberToken 28 = .ok (.iload_n 2, 1) := by decide +kernel
theorem dX13_numberToken_29 : decode cX13_numberToken 29 = .ok (.ifCond .eq 9, 3) := by decide +kernel
theorem dX13_numberToken_32 : decode cX13_numberToken 32 = .ok (.iload_n 1, 1) := by decide +kernel
theorem dX13_numberToken_33 : decode cX13_numberToken 33 = .ok (.iconst 2, 1) := by decide +kernel
theorem dX13_numberToken_34 : decode cX13_numberToken 34 = .ok (.iadd, 1) := by decide +kernel
theorem dX13_numberToken_35 : decode cX13_numberToken 35 = .ok (.goto 4, 3) := by decide +kernel
theorem dX13_numberToken_38 : decode cX13_numberToken 38 = .ok (.iload_n 1, 1) := by decide +kernel
theorem dX13_numberToken_39 : decode cX13_numberToken 39 = .ok (.istore_n 3, 1) := by decide +kernel
theorem dX13_numberToken_40 : decode cX13_numberToken 40 = .ok (.iload_n 3, 1) := by decide +kernel
theorem dX13_numberToken_41 : decode cX13_numberToken 41 = .ok (.istore 4, 2) := by decide +kernel
theorem dX13_numberToken_43 : decode cX13_numberToken 43 = .ok (.lconst 0, 1) := by decide +kernel
theorem dX13_numberToken_44 : decode cX13_numberToken 44 = .ok (.lstore 5, 2) := by decide +kernel
theorem dX13_numberToken_46 : decode cX13_numberToken 46 = .ok (.iload_n 2, 1) := by decide +kernel
theorem dX13_numberToken_47 : decode cX13_numberToken 47 = .ok (.ifCond .eq 19, 3) := by decide +kernel
theorem dX13_numberToken_50 : decode cX13_numberToken 50 = .ok (.aload_n 0, 1) := by decide +kernel
theorem dX13_numberToken_51 : decode cX13_numberToken 51 = .ok (.iload_n 3, 1) := by decide +kernel
theorem dX13_numberToken_52 : decode cX13_numberToken 52 = .ok (.invokevirtual 177, 3) := by decide +kernel
theorem dX13_numberToken_55 : decode cX13_numberToken 55 = .ok (.invokestatic 221, 3) := by decide +kernel
theorem dX13_numberToken_58 : decode cX13_numberToken 58 = .ok (.bipush 16, 2) := by decide +kernel
theorem dX13_numberToken_60 : decode cX13_numberToken 60 = .ok (.if_icmp .ge 65, 3) := by decide +kernel
theorem dX13_numberToken_63 : decode cX13_numberToken 63 = .ok (.goto 14, 3) := by decide +kernel
theorem dX13_numberToken_66 : decode cX13_numberToken 66 = .ok (.aload_n 0, 1) := by decide +kernel
theorem dX13_numberToken_67 : decode cX13_numberToken 67 = .ok (.iload_n 3, 1) := by decide +kernel
theorem dX13_numberToken_68 : decode cX13_numberToken 68 = .ok (.invokevirtual 177, 3) := by decide +kernel
theorem dX13_numberToken_71 : decode cX13_numberToken 71 = .ok (.invokestatic 164, 3) := by decide +kernel
theorem dX13_numberToken_74 : decode cX13_numberToken 74 = .ok (.ifCond .eq 51, 3) := by decide +kernel
theorem dX13_numberToken_77 : decode cX13_numberToken 77 = .ok (.iload_n 3, 1) := by decide +kernel
theorem dX13_numberToken_78 : decode cX13_numberToken 78 = .ok (.iload 4, 2) := by decide +kernel
theorem dX13_numberToken_80 : decode cX13_numberToken 80 = .ok (.isub, 1) := by decide +kernel
theorem dX13_numberToken_81 : decode cX13_numberToken 81 = .ok (.bipush 10, 2) := by decide +kernel
theorem dX13_numberToken_83 : decode cX13_numberToken 83 = .ok (.if_icmp .ge 32, 3) := by decide +kernel
theorem dX13_numberToken_86 : decode cX13_numberToken 86 = .ok (.lload 5, 2) := by decide +kernel
theorem dX13_numberToken_88 : decode cX13_numberToken 88 = .ok (.iload_n 2, 1) := by decide +kernel
theorem dX13_numberToken_89 : decode cX13_numberToken 89 = .ok (.ifCond .eq 9, 3) := by decide +kernel
theorem dX13_numberToken_92 : decode cX13_numberToken 92 = .ok (.ldc2_w 224, 3) := by decide +kernel
theorem dX13_numberToken_95 : decode cX13_numberToken 95 = .ok (.goto 6, 3) := by decide +kernel
theorem dX13_numberToken_98 : decode cX13_numberToken 98 = .ok (.ldc2_w 226, 3) := by decide +kernel
theorem dX13_numberToken_101 : decode cX13_numberToken 101 = .ok (.lmul, 1) := by decide +kernel
theorem dX13_numberToken_102 : decode cX13_numberToken 102 = .ok (.aload_n 0, 1) := by decide +kernel
theorem dX13_numberToken_103 : decode cX13_numberToken 103 = .ok (.iload_n 3, 1) := by decide +kernel
theorem dX13_numberToken_104 : decode cX13_numberToken 104 = .ok (.invokevirtual 177, 3) := by decide +kernel
theorem dX13_numberToken_107 : decode cX13_numberToken 107 = .ok (.invokestatic 221, 3) := by decide +kernel
theorem dX13_numberToken_110 : decode cX13_numberToken 110 = .ok (.i2l, 1) := by decide +kernel
theorem dX13_numberToken_111 : decode cX13_numberToken 111 = .ok (.ladd, 1) := by decide +kernel
theorem dX13_numberToken_112 : decode cX13_numberToken 112 = .ok (.goto 5, 3) := by decide +kernel
theorem dX13_numberToken_115 : decode cX13_numberToken 115 = .ok (.lload 5, 2) := by decide +kernel
theorem dX13_numberToken_117 : decode cX13_numberToken 117 = .ok (.lstore 5, 2) := by decide +kernel
theorem dX13_numberToken_119 : decode cX13_numberToken 119 = .ok (.iinc 3 1, 3) := by decide +kernel
theorem dX13_numberToken_122 : decode cX13_numberToken 122 = .ok (.goto (-76), 3) := by decide +kernel
theorem dX13_numberToken_125 : decode cX13_numberToken 125 = .ok (.iload_n 3, 1) := by decide +kernel
theorem dX13_numberToken_126 : decode cX13_numberToken 126 = .ok (.iload 4, 2) := by decide +kernel
theorem dX13_numberToken_128 : decode cX13_numberToken 128 = .ok (.isub, 1) := by decide +kernel
theorem dX13_numberToken_129 : decode cX13_numberToken 129 = .ok (.istore 7, 2) := by decide +kernel
theorem dX13_numberToken_131 : decode cX13_numberToken 131 = .ok (.iload 7, 2) := by decide +kernel
theorem dX13_numberToken_133 : decode cX13_numberToken 133 = .ok (.iconst 1, 1) := by decide +kernel
theorem dX13_numberToken_134 : decode cX13_numberToken 134 = .ok (.if_icmp .lt 39, 3) := by decide +kernel
theorem dX13_numberToken_137 : decode cX13_numberToken 137 = .ok (.iload 7, 2) := by decide +kernel
theorem dX13_numberToken_139 : decode cX13_numberToken 139 = .ok (.iload_n 2, 1) := by decide +kernel
theorem dX13_numberToken_140 : decode cX13_numberToken 140 = .ok (.ifCond .eq 8, 3) := by decide +kernel
theorem dX13_numberToken_143 : decode cX13_numberToken 143 = .ok (.bipush 8, 2) := by decide +kernel
theorem dX13_numberToken_145 : decode cX13_numberToken 145 = .ok (.goto 5, 3) := by decide +kernel
theorem dX13_numberToken_148 : decode cX13_numberToken 148 = .ok (.bipush 10, 2) := by decide +kernel
theorem dX13_numberToken_150 : decode cX13_numberToken 150 = .ok (.if_icmp .gt 23, 3) := by decide +kernel
theorem dX13_numberToken_153 : decode cX13_numberToken 153 = .ok (.lload 5, 2) := by decide +kernel
theorem dX13_numberToken_155 : decode cX13_numberToken 155 = .ok (.ldc2_w 228, 3) := by decide +kernel
theorem dX13_numberToken_158 : decode cX13_numberToken 158 = .ok (.lcmp, 1) := by decide +kernel
theorem dX13_numberToken_159 : decode cX13_numberToken 159 = .ok (.ifCond .gt 14, 3) := by decide +kernel
theorem dX13_numberToken_162 : decode cX13_numberToken 162 = .ok (.aload_n 0, 1) := by decide +kernel
theorem dX13_numberToken_163 : decode cX13_numberToken 163 = .ok (.iload_n 3, 1) := by decide +kernel
theorem dX13_numberToken_164 : decode cX13_numberToken 164 = .ok (.invokevirtual 177, 3) := by decide +kernel
theorem dX13_numberToken_167 : decode cX13_numberToken 167 = .ok (.invokestatic 212, 3) := by decide +kernel
theorem dX13_numberToken_170 : decode cX13_numberToken 170 = .ok (.ifCond .eq 5, 3) := by decide +kernel
theorem dX13_numberToken_173 : decode cX13_numberToken 173 = .ok (.iconst (-1), 1) := by decide +kernel
theorem dX13_numberToken_174 : decode cX13_numberToken 174 = .ok (.ireturn, 1) := by decide +kernel
theorem dX13_numberToken_175 : decode cX13_numberToken 175 = .ok (.aload_n 0, 1) := by decide +kernel
theorem dX13_numberToken_176 : decode cX13_numberToken 176 = .ok (.iconst 3, 1) := by decide +kernel
theorem dX13_numberToken_177 : decode cX13_numberToken 177 = .ok (.lload 5, 2) := by decide +kernel
theorem dX13_numberToken_179 : decode cX13_numberToken 179 = .ok (.l2i, 1) := by decide +kernel
theorem dX13_numberToken_180 : decode cX13_numberToken 180 = .ok (.iload_n 1, 1) := by decide +kernel
theorem dX13_numberToken_181 : decode cX13_numberToken 181 = .ok (.invokevirtual 208, 3) := by decide +kernel
theorem dX13_numberToken_184 : decode cX13_numberToken 184 = .ok (.iload_n 3, 1) := by decide +kernel
theorem dX13_numberToken_185 : decode cX13_numberToken 185 = .ok (.ireturn, 1) := by decide +kernel
theorem dX13_hex_0 : decode cX13_hex 0 = .ok (.iload_n 0, 1) := by decide +kernel
theorem dX13_hex_1 : decode cX13_hex 1 = .ok (.invokestatic 164, 3) := by decide +kernel
theorem dX13_hex_4 : decode cX13_hex 4 = .ok (.ifCond .eq 10, 3) := by decide +kernel
theorem dX13_hex_7 : decode cX13_hex 7 = .ok (.iload_n 0, 1) := by decide +kernel
theorem dX13_hex_8 : decode cX13_hex 8 = .ok (.bipush 48, 2) := by decide +kernel
theorem dX13_hex_10 : decode cX13_hex 10 = .ok (.isub, 1) := by decide +kernel
theorem dX13_hex_11 : decode cX13_hex 11 = .ok (.goto 49, 3) := by decide +kernel
theorem dX13_hex_14 : decode cX13_hex 14 = .ok (.iload_n 0, 1) := by decide +kernel
theorem dX13_hex_15 : decode cX13_hex 15 = .ok (.bipush 97, 2) := by decide +kernel
theorem dX13_hex_17 : decode cX13_hex 17 = .ok (.if_icmp .lt 19, 3) := by decide +kernel
theorem dX13_hex_20 : decode cX13_hex 20 = .ok (.iload_n 0, 1) := by decide +kernel
theorem dX13_hex_21 : decode cX13_hex 21 = .ok (.bipush 102, 2) := by decide +kernel
theorem dX13_hex_23 : decode cX13_hex 23 = .ok (.if_icmp .gt 13, 3) := by decide +kernel
theorem dX13_hex_26 : decode cX13_hex 26 = .ok (.iload_n 0, 1) := by decide +kernel
theorem dX13_hex_27 : decode cX13_hex 27 = .ok (.bipush 97, 2) := by decide +kernel
theorem dX13_hex_29 : decode cX13_hex 29 = .ok (.isub, 1) := by decide +kernel
theorem dX13_hex_30 : decode cX13_hex 30 = .ok (.bipush 10, 2) := by decide +kernel
theorem dX13_hex_32 : decode cX13_hex 32 = .ok (.iadd, 1) := by decide +kernel
theorem dX13_hex_33 : decode cX13_hex 33 = .ok (.goto 27, 3) := by decide +kernel
theorem dX13_hex_36 : decode cX13_hex 36 = .ok (.iload_n 0, 1) := by decide +kernel
theorem dX13_hex_37 : decode cX13_hex 37 = .ok (.bipush 65, 2) := by decide +kernel
theorem dX13_hex_39 : decode cX13_hex 39 = .ok (.if_icmp .lt 19, 3) := by decide +kernel
theorem dX13_hex_42 : decode cX13_hex 42 = .ok (.iload_n 0, 1) := by decide +kernel
theorem dX13_hex_43 : decode cX13_hex 43 = .ok (.bipush 70, 2) := by decide +kernel
theorem dX13_hex_45 : decode cX13_hex 45 = .ok (.if_icmp .gt 13, 3) := by decide +kernel
theorem dX13_hex_48 : decode cX13_hex 48 = .ok (.iload_n 0, 1) := by decide +kernel
theorem dX13_hex_49 : decode cX13_hex 49 = .ok (.bipush 65, 2) := by decide +kernel
theorem dX13_hex_51 : decode cX13_hex 51 = .ok (.isub, 1) := by decide +kernel
theorem dX13_hex_52 : decode cX13_hex 52 = .ok (.bipush 10, 2) := by decide +kernel
theorem dX13_hex_54 : decode cX13_hex 54 = .ok (.iadd, 1) := by decide +kernel
theorem dX13_hex_55 : decode cX13_hex 55 = .ok (.goto 5, 3) := by decide +kernel
theorem dX13_hex_58 : decode cX13_hex 58 = .ok (.bipush 99, 2) := by decide +kernel
theorem dX13_hex_60 : decode cX13_hex 60 = .ok (.ireturn, 1) := by decide +kernel
theorem dX13_texts_0 : decode cX13_texts 0 = .ok (.aload_n 0, 1) := by decide +kernel
theorem dX13_texts_1 : decode cX13_texts 1 = .ok (.iconst 0, 1) := by decide +kernel
theorem dX13_texts_2 : decode cX13_texts 2 = .ok (.putfield 233, 3) := by decide +kernel
theorem dX13_texts_5 : decode cX13_texts 5 = .ok (.aload_n 0, 1) := by decide +kernel
theorem dX13_texts_6 : decode cX13_texts 6 = .ok (.iconst 0, 1) := by decide +kernel
theorem dX13_texts_7 : decode cX13_texts 7 = .ok (.putfield 266, 3) := by decide +kernel
theorem dX13_texts_10 : decode cX13_texts 10 = .ok (.aload_n 0, 1) := by decide +kernel
theorem dX13_texts_11 : decode cX13_texts 11 = .ok (.iconst 0, 1) := by decide +kernel
theorem dX13_texts_12 : decode cX13_texts 12 = .ok (.putfield 279, 3) := by decide +kernel
theorem dX13_texts_15 : decode cX13_texts 15 = .ok (.aload_n 0, 1) := by decide +kernel
theorem dX13_texts_16 : decode cX13_texts 16 = .ok (.iconst 0, 1) := by decide +kernel
theorem dX13_texts_17 : decode cX13_texts 17 = .ok (.putfield 282, 3) := by decide +kernel
theorem dX13_texts_20 : decode cX13_texts 20 = .ok (.aload_n 0, 1) := by decide +kernel
theorem dX13_texts_21 : decode cX13_texts 21 = .ok (.iconst 0, 1) := by decide +kernel
theorem dX13_texts_22 : decode cX13_texts 22 = .ok (.putfield 276, 3) := by decide +kernel
theorem dX13_texts_25 : decode cX13_texts 25 = .ok (.aload_n 0, 1) := by decide +kernel
theorem dX13_texts_26 : decode cX13_texts 26 = .ok (.iconst 0, 1) := by decide +kernel
theorem dX13_texts_27 : decode cX13_texts 27 = .ok (.putfield 285, 3) := by decide +kernel
theorem dX13_texts_30 : decode cX13_texts 30 = .ok (.aload_n 0, 1) := by decide +kernel
theorem dX13_texts_31 : decode cX13_texts 31 = .ok (.iconst 0, 1) := by decide +kernel
theorem dX13_texts_32 : decode cX13_texts 32 = .ok (.putfield 288, 3) := by decide +kernel
theorem dX13_texts_35 : decode cX13_texts 35 = .ok (.aload_n 0, 1) := by decide +kernel
theorem dX13_texts_36 : decode cX13_texts 36 = .ok (.iconst 0, 1) := by decide +kernel
theorem dX13_texts_37 : decode cX13_texts 37 = .ok (.putfield 291, 3) := by decide +kernel
theorem dX13_texts_40 : decode cX13_texts 40 = .ok (.aload_n 0, 1) := by decide +kernel
theorem dX13_texts_41 : decode cX13_texts 41 = .ok (.iconst (-1), 1) := by decide +kernel
theorem dX13_texts_42 : decode cX13_texts 42 = .ok (.putfield 294, 3) := by decide +kernel
theorem dX13_texts_45 : decode cX13_texts 45 = .ok (.aload_n 0, 1) := by decide +kernel
theorem dX13_texts_46 : decode cX13_texts 46 = .ok (.aload_n 0, 1) := by decide +kernel
theorem dX13_texts_47 : decode cX13_texts 47 = .ok (.getfield 245, 3) := by decide +kernel
theorem dX13_texts_50 : decode cX13_texts 50 = .ok (.ifCond .ne 7, 3) := by decide +kernel
theorem dX13_texts_53 : decode cX13_texts 53 = .ok (.iconst 0, 1) := by decide +kernel
theorem dX13_texts_54 : decode cX13_texts 54 = .ok (.goto 7, 3) := by decide +kernel
theorem dX13_texts_57 : decode cX13_texts 57 = .ok (.aload_n 0, 1) := by decide +kernel
theorem dX13_texts_58 : decode cX13_texts 58 = .ok (.getfield 297, 3) := by decide +kernel
theorem dX13_texts_61 : decode cX13_texts 61 = .ok (.putfield 297, 3) := by decide +kernel
theorem dX13_texts_64 : decode cX13_texts 64 = .ok (.iconst 0, 1) := by decide +kernel
theorem dX13_texts_65 : decode cX13_texts 65 = .ok (.istore_n 1, 1) := by decide +kernel
theorem dX13_texts_66 : decode cX13_texts 66 = .ok (.aload_n 0, 1) := by decide +kernel
theorem dX13_texts_67 : decode cX13_texts 67 = .ok (.aload_n 0, 1) := by decide +kernel
theorem dX13_texts_68 : decode cX13_texts 68 = .ok (.getfield 245, 3) := by decide +kernel
theorem dX13_texts_71 : decode cX13_texts 71 = .ok (.ifCond .ne 7, 3) := by decide +kernel
theorem dX13_texts_74 : decode cX13_texts 74 = .ok (.iconst 0, 1) := by decide +kernel
theorem dX13_texts_75 : decode cX13_texts 75 = .ok (.goto 7, 3) := by decide +kernel
theorem dX13_texts_78 : decode cX13_texts 78 = .ok (.aload_n 0, 1) := by decide +kernel
theorem dX13_texts_79 : decode cX13_texts 79 = .ok (.getfield 300, 3) := by decide +kernel
theorem dX13_texts_82 : decode cX13_texts 82 = .ok (.putfield 300, 3) := by decide +kernel
theorem dX13_texts_85 : decode cX13_texts 85 = .ok (.iconst 1, 1) := by decide +kernel
theorem dX13_texts_86 : decode cX13_texts 86 = .ok (.istore_n 2, 1) := by decide +kernel
theorem dX13_texts_87 : decode cX13_texts 87 = .ok (.iload_n 2, 1) := by decide +kernel
theorem dX13_texts_88 : decode cX13_texts 88 = .ok (.ifCond .eq 39, 3) := by decide +kernel
theorem dX13_texts_91 : decode cX13_texts 91 = .ok (.aload_n 0, 1) := by decide +kernel
theorem dX13_texts_92 : decode cX13_texts 92 = .ok (.getfield 16, 3) := by decide +kernel
theorem dX13_texts_95 : decode cX13_texts 95 = .ok (.aload_n 0, 1) := by decide +kernel
theorem dX13_texts_96 : decode cX13_texts 96 = .ok (.getfield 233, 3) := by decide +kernel
theorem dX13_texts_99 : decode cX13_texts 99 = .ok (.iaload, 1) := by decide +kernel
theorem dX13_texts_100 : decode cX13_texts 100 = .ok (.ifCond .eq 27, 3) := by decide +kernel
theorem dX13_texts_103 : decode cX13_texts 103 = .ok (.aload_n 0, 1) := by decide +kernel
theorem dX13_texts_104 : decode cX13_texts 104 = .ok (.iload_n 1, 1) := by decide +kernel
theorem dX13_texts_105 : decode cX13_texts 105 = .ok (.invokevirtual 303, 3) := by decide +kernel
theorem dX13_texts_108 : decode cX13_texts 108 = .ok (.istore_n 2, 1) := by decide +kernel
theorem dX13_texts_109 : decode cX13_texts 109 = .ok (.iload_n 1, 1) := by decide +kernel
theorem dX13_texts_110 : decode cX13_texts 110 = .ok (.aload_n 0, 1) := by decide +kernel
theorem dX13_texts_111 : decode cX13_texts 111 = .ok (.getfield 306, 3) := by decide +kernel
theorem dX13_texts_114 : decode cX13_texts 114 = .ok (.ifCond .eq 7, 3) := by decide +kernel
theorem dX13_texts_117 : decode cX13_texts 117 = .ok (.iconst 1, 1) := by decide +kernel
theorem dX13_texts_118 : decode cX13_texts 118 = .ok (.goto 4, 3) := by decide +kernel
theorem dX13_texts_121 : decode cX13_texts 121 = .ok (.iconst 0, 1) := by decide +kernel
theorem dX13_texts_122 : decode cX13_texts 122 = .ok (.iadd, 1) := by decide +kernel
theorem dX13_texts_123 : decode cX13_texts 123 = .ok (.istore_n 1, 1) := by decide +kernel
theorem dX13_texts_124 : decode cX13_texts 124 = .ok (.goto (-37), 3) := by decide +kernel
theorem dX13_texts_127 : decode cX13_texts 127 = .ok (.aload_n 0, 1) := by decide +kernel
theorem dX13_texts_128 : decode cX13_texts 128 = .ok (.getfield 230, 3) := by decide +kernel
theorem dX13_texts_131 : decode cX13_texts 131 = .ok (.ifCond .ne 23, 3) := by decide +kernel
theorem dX13_texts_134 : decode cX13_texts 134 = .ok (.aload_n 0, 1) := by decide +kernel
theorem dX13_texts_135 : decode cX13_texts 135 = .ok (.getfield 184, 3) := by decide +kernel
theorem dX13_texts_138 : decode cX13_texts 138 = .ok (.iconst (-1), 1) := by decide +kernel
theorem dX13_texts_139 : decode cX13_texts 139 = .ok (.if_icmp .eq 11, 3) := by decide +kernel
theorem dX13_texts_142 : decode cX13_texts 142 = .ok (.aload_n 0, 1) := by decide +kernel
theorem dX13_texts_143 : decode cX13_texts 143 = .ok (.iconst 1, 1) := by decide +kernel
theorem dX13_texts_144 : decode cX13_texts 144 = .ok (.invokevirtual 260, 3) := by decide +kernel
theorem dX13_texts_147 : decode cX13_texts 147 = .ok (.ifCond .eq 7, 3) := by decide +kernel
theorem dX13_texts_150 : decode cX13_texts 150 = .ok (.iconst 1, 1) := by decide +kernel
theorem dX13_texts_151 : decode cX13_texts 151 = .ok (.goto 4, 3) := by decide +kernel
theorem dX13_texts_154 : decode cX13_texts 154 = .ok (.iconst 0, 1) := by decide +kernel
theorem dX13_texts_155 : decode cX13_texts 155 = .ok (.ireturn, 1) := by decide +kernel
theorem dX13_tells_0 : decode cX13_tells 0 = .ok (.aload_n 0, 1) := by decide +kernel
theorem dX13_tells_1 : decode cX13_tells 1 = .ok (.iconst 0, 1) := by decide +kernel
theorem dX13_tells_2 : decode cX13_tells 2 = .ok (.putfield 306, 3) := by decide +kernel
theorem dX13_tells_5 : decode cX13_tells 5 = .ok (.aload_n 0, 1) := by decide +kernel
theorem dX13_tells_6 : decode cX13_tells 6 = .ok (.iconst 3, 1) := by decide +kernel
theorem dX13_tells_7 : decode cX13_tells 7 = .ok (.iconst 0, 1) := by decide +kernel
theorem dX13_tells_8 : decode cX13_tells 8 = .ok (.invokevirtual 310, 3) := by decide +kernel
theorem dX13_tells_11 : decode cX13_tells 11 = .ok (.ifCond .eq 25, 3) := by decide +kernel
theorem dX13_tells_14 : decode cX13_tells 14 = .ok (.aload_n 0, 1) := by decide +kernel
theorem dX13_tells_15 : decode cX13_tells 15 = .ok (.iconst 0, 1) := by decide +kernel
theorem dX13_tells_16 : decode cX13_tells 16 = .ok (.iconst 1, 1) := by decide +kernel
theorem dX13_tells_17 : decode cX13_tells 17 = .ok (.invokevirtual 310, 3) := by decide +kernel
theorem dX13_tells_20 : decode cX13_tells 20 = .ok (.ifCond .eq 14, 3) := by decide +kernel
theorem dX13_tells_23 : decode cX13_tells 23 = .ok (.aload_n 0, 1) := by decide +kernel
theorem dX13_tells_24 : decode cX13_tells 24 = .ok (.invokevirtual 314, 3) := by decide +kernel
theorem dX13_tells_27 : decode cX13_tells 27 = .ok (.ifCond .eq 7, 3) := by decide +kernel
theorem dX13_tells_30 : decode cX13_tells 30 = .ok (.iconst 1, 1) := by decide +kernel
theorem dX13_tells_31 : decode cX13_tells 31 = .ok (.goto 4, 3) := by decide +kernel
theorem dX13_tells_34 : decode cX13_tells 34 = .ok (.iconst 0, 1) := by decide +kernel
theorem dX13_tells_35 : decode cX13_tells 35 = .ok (.ireturn, 1) := by decide +kernel
theorem dX13_tells_36 : decode cX13_tells 36 = .ok (.aload_n 0, 1) := by decide +kernel
theorem dX13_tells_37 : decode cX13_tells 37 = .ok (.iconst 2, 1) := by decide +kernel
theorem dX13_tells_38 : decode cX13_tells 38 = .ok (.invokevirtual 263, 3) := by decide +kernel
theorem dX13_tells_41 : decode cX13_tells 41 = .ok (.istore_n 2, 1) := by decide +kernel
theorem dX13_tells_42 : decode cX13_tells 42 = .ok (.aload_n 0, 1) := by decide +kernel
theorem dX13_tells_43 : decode cX13_tells 43 = .ok (.iconst 1, 1) := by decide +kernel
theorem dX13_tells_44 : decode cX13_tells 44 = .ok (.invokevirtual 263, 3) := by decide +kernel
theorem dX13_tells_47 : decode cX13_tells 47 = .ok (.istore_n 3, 1) := by decide +kernel
theorem dX13_tells_48 : decode cX13_tells 48 = .ok (.iload_n 2, 1) := by decide +kernel
theorem dX13_tells_49 : decode cX13_tells 49 = .ok (.ifCond .ne 21, 3) := by decide +kernel
theorem dX13_tells_52 : decode cX13_tells 52 = .ok (.iload_n 3, 1) := by decide +kernel
theorem dX13_tells_53 : decode cX13_tells 53 = .ok (.ifCond .ne 17, 3) := by decide +kernel
theorem dX13_tells_56 : decode cX13_tells 56 = .ok (.aload_n 0, 1) := by decide +kernel
theorem dX13_tells_57 : decode cX13_tells 57 = .ok (.iconst 0, 1) := by decide +kernel
theorem dX13_tells_58 : decode cX13_tells 58 = .ok (.invokevirtual 263, 3) := by decide +kernel
theorem dX13_tells_61 : decode cX13_tells 61 = .ok (.ifCond .ne 9, 3) := by decide +kernel
theorem dX13_tells_64 : decode cX13_tells 64 = .ok (.aload_n 0, 1) := by decide +kernel
theorem dX13_tells_65 : decode cX13_tells 65 = .ok (.iconst 2, 1) := by decide +kernel
theorem dX13_tells_66 : decode cX13_tells 66 = .ok (.invokevirtual 260, 3) := by decide +kernel
theorem dX13_tells_69 : decode cX13_tells 69 = .ok (.ireturn, 1) := by decide +kernel
theorem dX13_tells_70 : decode cX13_tells 70 = .ok (.aload_n 0, 1) := by decide +kernel
theorem dX13_tells_71 : decode cX13_tells 71 = .ok (.dup, 1) := by decide +kernel
theorem dX13_tells_72 : decode cX13_tells 72 = .ok (.getfield 233, 3) := by decide +kernel
theorem dX13_tells_75 : decode cX13_tells 75 = .ok (.iconst 1, 1) := by decide +kernel
theorem dX13_tells_76 : decode cX13_tells 76 = .ok (.iadd, 1) := by decide +kernel
theorem dX13_tells_77 : decode cX13_tells 77 = .ok (.putfield 233, 3) := by decide +kernel
theorem dX13_tells_80 : decode cX13_tells 80 = .ok (.aload_n 0, 1) := by decide +kernel
theorem dX13_tells_81 : decode cX13_tells 81 = .ok (.invokevirtual 317, 3) := by decide +kernel
theorem dX13_tells_84 : decode cX13_tells 84 = .ok (.istore 4, 2) := by decide +kernel
theorem dX13_tells_86 : decode cX13_tells 86 = .ok (.aload_n 0, 1) := by decide +kernel
theorem dX13_tells_87 : decode cX13_tells 87 = .ok (.getfield 230, 3) := by decide +kernel
theorem dX13_tells_90 : decode cX13_tells 90 = .ok (.ifCond .le 5, 3) := by decide +kernel
theorem dX13_tells_93 : decode cX13_tells 93 = .ok (.iconst 0, 1) := by decide +kernel
theorem dX13_tells_94 : decode cX13_tells 94 = .ok (.ireturn, 1) := by decide +kernel
theorem dX13_tells_95 : decode cX13_tells 95 = .ok (.iload_n 3, 1) := by decide +kernel
theorem dX13_tells_96 : decode cX13_tells 96 = .ok (.ifCond .ne 21, 3) := by decide +kernel
theorem dX13_tells_99 : decode cX13_tells 99 = .ok (.aload_n 0, 1) := by decide +kernel
theorem dX13_tells_100 : decode cX13_tells 100 = .ok (.bipush 22, 2) := by decide +kernel
theorem dX13_tells_102 : decode cX13_tells 102 = .ok (.invokevirtual 257, 3) := by decide +kernel
theorem dX13_tells_105 : decode cX13_tells 105 = .ok (.ifCond .eq 12, 3) := by decide +kernel
theorem dX13_tells_108 : decode cX13_tells 108 = .ok (.aload_n 0, 1) := by decide +kernel
theorem dX13_tells_109 : decode cX13_tells 109 = .ok (.iload_n 1, 1) := by decide +kernel
theorem dX13_tells_110 : decode cX13_tells 110 = .ok (.iload 4, 2) := by decide +kernel
theorem dX13_tells_112 : decode cX13_tells 112 = .ok (.iload_n 2, 1) := by decide +kernel
theorem dX13_tells_113 : decode cX13_tells 113 = .ok (.invokevirtual 320, 3) := by decide +kernel
theorem dX13_tells_116 : decode cX13_tells 116 = .ok (.ireturn, 1) := by decide +kernel
theorem dX13_tells_117 : decode cX13_tells 117 = .ok (.iload_n 2, 1) := by decide +kernel
theorem dX13_tells_118 : decode cX13_tells 118 = .ok (.ifCond .eq 9, 3) := by decide +kernel
theorem dX13_tells_121 : decode cX13_tells 121 = .ok (.aload_n 0, 1) := by decide +kernel
theorem dX13_tells_122 : decode cX13_tells 122 = .ok (.iconst 2, 1) := by decide +kernel
theorem dX13_tells_123 : decode cX13_tells 123 = .ok (.invokevirtual 260, 3) := by decide +kernel
theorem dX13_tells_126 : decode cX13_tells 126 = .ok (.ireturn, 1) := by decide +kernel
theorem dX13_tells_127 : decode cX13_tells 127 = .ok (.iload_n 3, 1) := by decide +kernel
theorem dX13_tells_128 : decode cX13_tells 128 = .ok (.ifCond .ne 36, 3) := by decide +kernel
theorem dX13_tells_131 : decode cX13_tells 131 = .ok (.aload_n 0, 1) := by decide +kernel
theorem dX13_tells_132 : decode cX13_tells 132 = .ok (.bipush 29, 2) := by decide +kernel
theorem dX13_tells_134 : decode cX13_tells 134 = .ok (.invokevirtual 257, 3) := by decide +kernel
theorem dX13_tells_137 : decode cX13_tells 137 = .ok (.ifCond .eq 27, 3) := by decide +kernel
theorem dX13_tells_140 : decode cX13_tells 140 = .ok (.aload_n 0, 1) := by decide +kernel
theorem dX13_tells_141 : decode cX13_tells 141 = .ok (.iload 4, 2) := by decide +kernel
theorem dX13_tells_143 : decode cX13_tells 143 = .ok (.invokevirtual 324, 3) := by decide +kernel
theorem dX13_tells_146 : decode cX13_tells 146 = .ok (.ifCond .eq 16, 3) := by decide +kernel
theorem dX13_tells_149 : decode cX13_tells 149 = .ok (.aload_n 0, 1) := by decide +kernel
theorem dX13_tells_150 : decode cX13_tells 150 = .ok (.bipush 29, 2) := by decide +kernel
theorem dX13_tells_152 : decode cX13_tells 152 = .ok (.invokevirtual 273, 3) := by decide +kernel
theorem dX13_tells_155 : decode cX13_tells 155 = .ok (.ifCond .eq 7, 3) := by decide +kernel
theorem dX13_tells_158 : decode cX13_tells 158 = .ok (.iconst 1, 1) := by decide +kernel
theorem dX13_tells_159 : decode cX13_tells 159 = .ok (.goto 4, 3) := by decide +kernel
theorem dX13_tells_162 : decode cX13_tells 162 = .ok (.iconst 0, 1) := by decide +kernel
theorem dX13_tells_163 : decode cX13_tells 163 = .ok (.ireturn, 1) := by decide +kernel
theorem dX13_tells_164 : decode cX13_tells 164 = .ok (.iload_n 3, 1) := by decide +kernel
theorem dX13_tells_165 : decode cX13_tells 165 = .ok (.ifCond .ne 104, 3) := by decide +kernel
theorem dX13_tells_168 : decode cX13_tells 168 = .ok (.aload_n 0, 1) := by decide +kernel
theorem dX13_tells_169 : decode cX13_tells 169 = .ok (.bipush 32, 2) := by decide +kernel
theorem dX13_tells_171 : decode cX13_tells 171 = .ok (.invokevirtual 257, 3) := by decide +kernel
theorem dX13_tells_174 : decode cX13_tells 174 = .ok (.ifCond .eq 95, 3) := by decide +kernel
theorem dX13_tells_177 : decode cX13_tells 177 = .ok (.aload_n 0, 1) := by decide +kernel
theorem dX13_tells_178 : decode cX13_tells 178 = .ok (.iload 4, 2) := by decide +kernel
theorem dX13_tells_180 : decode cX13_tells 180 = .ok (.invokevirtual 327, 3) := by decide +kernel
theorem dX13_tells_183 : decode cX13_tells 183 = .ok (.istore 5, 2) := by decide +kernel
theorem dX13_tells_185 : decode cX13_tells 185 = .ok (.aload_n 0, 1) := by decide +kernel
theorem dX13_tells_186 : decode cX13_tells 186 = .ok (.dup, 1) := by decide +kernel
theorem dX13_tells_187 : decode cX13_tells 187 = .ok (.getfield 233, 3) := by decide +kernel
theorem dX13_tells_190 : decode cX13_tells 190 = .ok (.iconst 1, 1) := by decide +kernel
theorem dX13_tells_191 : decode cX13_tells 191 = .ok (.iadd, 1) := by decide +kernel
theorem dX13_tells_192 : decode cX13_tells 192 = .ok (.putfield 233, 3) := by decide +kernel
theorem dX13_tells_195 : decode cX13_tells 195 = .ok (.aload_n 0, 1) := by decide +kernel
theorem dX13_tells_196 : decode cX13_tells 196 = .ok (.invokevirtual 330, 3) := by decide +kernel
theorem dX13_tells_199 : decode cX13_tells 199 = .ok (.istore 6, 2) := by decide +kernel
theorem dX13_tells_201 : decode cX13_tells 201 = .ok (.aload_n 0, 1) := by decide +kernel
theorem dX13_tells_202 : decode cX13_tells 202 = .ok (.getfield 230, 3) := by decide +kernel
theorem dX13_tells_205 : decode cX13_tells 205 = .ok (.ifCond .le 5, 3) := by decide +kernel
theorem dX13_tells_208 : decode cX13_tells 208 = .ok (.iconst 0, 1) := by decide +kernel
theorem dX13_tells_209 : decode cX13_tells 209 = .ok (.ireturn, 1) := by decide +kernel
theorem dX13_tells_210 : decode cX13_tells 210 = .ok (.aload_n 0, 1) := by decide +kernel
theorem dX13_tells_211 : decode cX13_tells 211 = .ok (.getfield 245, 3) := by decide +kernel
theorem dX13_tells_214 : decode cX13_tells 214 = .ok (.ifCond .le 25, 3) := by decide +kernel
theorem dX13_tells_217 : decode cX13_tells 217 = .ok (.iload 5, 2) := by decide +kernel
theorem dX13_tells_219 : decode cX13_tells 219 = .ok (.sipush 2000, 3) := by decide +kernel
theorem dX13_tells_222 : decode cX13_tells 222 = .ok (.if_icmp .ge 17, 3) := by decide +kernel
theorem dX13_tells_225 : decode cX13_tells 225 = .ok (.aload_n 0, 1) := by decide +kernel
theorem dX13_tells_226 : decode cX13_tells 226 = .ok (.getfield 101, 3) := by decide +kernel
theorem dX13_tells_229 : decode cX13_tells 229 = .ok (.aload_n 0, 1) := by decide +kernel
theorem dX13_tells_230 : decode cX13_tells 230 = .ok (.getfield 95, 3) := by decide +kernel
theorem dX13_tells_233 : decode cX13_tells 233 = .ok (.iload 5, 2) := by decide +kernel
theorem dX13_tells_235 : decode cX13_tells 235 = .ok (.iaload, 1) := by decide +kernel
theorem dX13_tells_236 : decode cX13_tells 236 = .ok (.iload 6, 2) := by decide +kernel
theorem dX13_tells_238 : decode cX13_tells 238 = .ok (.iastore, 1) := by decide +kernel
theorem dX13_tells_239 : decode cX13_tells 239 = .ok (.aload_n 0, 1) := by decide +kernel
theorem dX13_tells_240 : decode cX13_tells 240 = .ok (.iload 4, 2) := by decide +kernel
theorem dX13_tells_242 : decode cX13_tells 242 = .ok (.iconst 1, 1) := by decide +kernel
theorem dX13_tells_243 : decode cX13_tells 243 = .ok (.iconst 0, 1) := by decide +kernel
theorem dX13_tells_244 : decode cX13_tells 244 = .ok (.aload_n 0, 1) := by decide +kernel
theorem dX13_tells_245 : decode cX13_tells 245 = .ok (.getfield 95, 3) := by decide +kernel
theorem dX13_tells_248 : decode cX13_tells 248 = .ok (.iload 5, 2) := by decide +kernel
theorem dX13_tells_250 : decode cX13_tells 250 = .ok (.sipush 2000, 3) := by decide +kernel
theorem dX13_tells_253 : decode cX13_tells 253 = .ok (.invokestatic 333, 3) := by decide +kernel
theorem dX13_tells_256 : decode cX13_tells 256 = .ok (.iaload, 1) := by decide +kernel
theorem dX13_tells_257 : decode cX13_tells 257 = .ok (.iconst 1, 1) := by decide +kernel
theorem dX13_tells_258 : decode cX13_tells 258 = .ok (.iconst 0, 1) := by decide +kernel
theorem dX13_tells_259 : decode cX13_tells 259 = .ok (.invokevirtual 338, 3) := by decide +kernel
theorem dX13_tells_262 : decode cX13_tells 262 = .ok (.aload_n 0, 1) := by decide +kernel
theorem dX13_tells_263 : decode cX13_tells 263 = .ok (.bipush 29, 2) := by decide +kernel
theorem dX13_tells_265 : decode cX13_tells 265 = .ok (.invokevirtual 273, 3) := by decide +kernel
theorem dX13_tells_268 : decode cX13_tells 268 = .ok (.ireturn, 1) := by decide +kernel
theorem dX13_tells_269 : decode cX13_tells 269 = .ok (.aload_n 0, 1) := by decide +kernel
theorem dX13_tells_270 : decode cX13_tells 270 = .ok (.iload 4, 2) := by decide +kernel
theorem dX13_tells_272 : decode cX13_tells 272 = .ok (.iload_n 3, 1) := by decide +kernel
theorem dX13_tells_273 : decode cX13_tells 273 = .ok (.invokevirtual 342, 3) := by decide +kernel
theorem dX13_tells_276 : decode cX13_tells 276 = .ok (.ifCond .eq 16, 3) := by decide +kernel
theorem dX13_tells_279 : decode cX13_tells 279 = .ok (.aload_n 0, 1) := by decide +kernel
theorem dX13_tells_280 : decode cX13_tells 280 = .ok (.bipush 29, 2) := by decide +kernel
theorem dX13_tells_282 : decode cX13_tells 282 = .ok (.invokevirtual 273, 3) := by decide +kernel
theorem dX13_tells_285 : decode cX13_tells 285 = .ok (.ifCond .eq 7, 3) := by decide +kernel
theorem dX13_tells_288 : decode cX13_tells 288 = .ok (.iconst 1, 1) := by decide +kernel
theorem dX13_tells_289 : decode cX13_tells 289 = .ok (.goto 4, 3) := by decide +kernel
theorem dX13_tells_292 : decode cX13_tells 292 = .ok (.iconst 0, 1) := by decide +kernel
theorem dX13_tells_293 : decode cX13_tells 293 = .ok (.ireturn, 1) := by decide +kernel
theorem dX13_word_0 : decode cX13_word 0 = .ok (.aload_n 0, 1) := by decide +kernel
theorem dX13_word_1 : decode cX13_word 1 = .ok (.getfield 230, 3) := by decide +kernel
theorem dX13_word_4 : decode cX13_word 4 = .ok (.ifCond .gt 11, 3) := by decide +kernel
theorem dX13_word_7 : decode cX13_word 7 = .ok (.aload_n 0, 1) := by decide +kernel
theorem dX13_word_8 : decode cX13_word 8 = .ok (.iload_n 1, 1) := by decide +kernel
theorem dX13_word_9 : decode cX13_word 9 = .ok (.invokevirtual 263, 3) := by decide +kernel
theorem dX13_word_12 : decode cX13_word 12 = .ok (.ifCond .ne 21, 3) := by decide +kernel
theorem dX13_word_15 : decode cX13_word 15 = .ok (.iload_n 2, 1) := by decide +kernel
theorem dX13_word_16 : decode cX13_word 16 = .ok (.ifCond .eq 15, 3) := by decide +kernel
theorem dX13_word_19 : decode cX13_word 19 = .ok (.aload_n 0, 1) := by decide +kernel
theorem dX13_word_20 : decode cX13_word 20 = .ok (.iconst 2, 1) := by decide +kernel
theorem dX13_word_21 : decode cX13_word 21 = .ok (.invokevirtual 260, 3) := by decide +kernel
theorem dX13_word_24 : decode cX13_word 24 = .ok (.ifCond .eq 7, 3) := by decide +kernel
theorem dX13_word_27 : decode cX13_word 27 = .ok (.iconst 1, 1) := by decide +kernel
theorem dX13_word_28 : decode cX13_word 28 = .ok (.goto 4, 3) := by decide +kernel
theorem dX13_word_31 : decode cX13_word 31 = .ok (.iconst 0, 1) := by decide +kernel
theorem dX13_word_32 : decode cX13_word 32 = .ok (.ireturn, 1) := by decide +kernel
theorem dX13_word_33 : decode cX13_word 33 = .ok (.aload_n 0, 1) := by decide +kernel
theorem dX13_word_34 : decode cX13_word 34 = .ok (.dup, 1) := by decide +kernel
theorem dX13_word_35 : decode cX13_word 35 = .ok (.getfield 233, 3) := by decide +kernel
theorem dX13_word_38 : decode cX13_word 38 = .ok (.iconst 1, 1) := by decide +kernel
theorem dX13_word_39 : decode cX13_word 39 = .ok (.iadd, 1) := by decide +kernel
theorem dX13_word_40 : decode cX13_word 40 = .ok (.putfield 233, 3) := by decide +kernel
theorem dX13_word_43 : decode cX13_word 43 = .ok (.iconst 1, 1) := by decide +kernel
theorem dX13_word_44 : decode cX13_word 44 = .ok (.ireturn, 1) := by decide +kernel
theorem dX13_isWord_0 : decode cX13_isWord 0 = .ok (.aload_n 0, 1) := by decide +kernel
theorem dX13_isWord_1 : decode cX13_isWord 1 = .ok (.getfield 16, 3) := by decide +kernel
theorem dX13_isWord_4 : decode cX13_isWord 4 = .ok (.aload_n 0, 1) := by decide +kernel
theorem dX13_isWord_5 : decode cX13_isWord 5 = .ok (.getfield 233, 3) := by decide +kernel
theorem dX13_isWord_8 : decode cX13_isWord 8 = .ok (.iaload, 1) := by decide +kernel
theorem dX13_isWord_9 : decode cX13_isWord 9 = .ok (.iconst 2, 1) := by decide +kernel
theorem dX13_isWord_10 : decode cX13_isWord 10 = .ok (.if_icmp .ne 20, 3) := by decide +kernel
theorem dX13_isWord_13 : decode cX13_isWord 13 = .ok (.aload_n 0, 1) := by decide +kernel
theorem dX13_isWord_14 : decode cX13_isWord 14 = .ok (.getfield 19, 3) := by decide +kernel
theorem dX13_isWord_17 : decode cX13_isWord 17 = .ok (.aload_n 0, 1) := by decide +kernel
theorem dX13_isWord_18 : decode cX13_isWord 18 = .ok (.getfield 233, 3) := by decide +kernel
theorem dX13_isWord_21 : decode cX13_isWord 21 = .ok (.iaload, 1) := by decide +kernel
theorem dX13_isWord_22 : decode cX13_isWord 22 = .ok (.iload_n 1, 1) := by decide +kernel
theorem dX13_isWord_23 : decode cX13_isWord 23 = .ok (.if_icmp .ne 7, 3) := by decide +kernel
theorem dX13_isWord_26 : decode cX13_isWord 26 = .ok (.iconst 1, 1) := by decide +kernel
theorem dX13_isWord_27 : decode cX13_isWord 27 = .ok (.goto 4, 3) := by decide +kernel
theorem dX13_isWord_30 : decode cX13_isWord 30 = .ok (.iconst 0, 1) := by decide +kernel
theorem dX13_isWord_31 : decode cX13_isWord 31 = .ok (.ireturn, 1) := by decide +kernel
theorem dX13_fails_0 : decode cX13_fails 0 = .ok (.aload_n 0, 1) := by decide +kernel
theorem dX13_fails_1 : decode cX13_fails 1 = .ok (.getfield 230, 3) := by decide +kernel
theorem dX13_fails_4 : decode cX13_fails 4 = .ok (.ifCond .le 5, 3) := by decide +kernel
theorem dX13_fails_7 : decode cX13_fails 7 = .ok (.iconst 0, 1) := by decide +kernel
theorem dX13_fails_8 : decode cX13_fails 8 = .ok (.ireturn, 1) := by decide +kernel
theorem dX13_fails_9 : decode cX13_fails 9 = .ok (.aload_n 0, 1) := by decide +kernel
theorem dX13_fails_10 : decode cX13_fails 10 = .ok (.getfield 233, 3) := by decide +kernel
theorem dX13_fails_13 : decode cX13_fails 13 = .ok (.aload_n 0, 1) := by decide +kernel
theorem dX13_fails_14 : decode cX13_fails 14 = .ok (.getfield 187, 3) := by decide +kernel
theorem dX13_fails_17 : decode cX13_fails 17 = .ok (.if_icmp .ne 15, 3) := by decide +kernel
theorem dX13_fails_20 : decode cX13_fails 20 = .ok (.aload_n 0, 1) := by decide +kernel
theorem dX13_fails_21 : decode cX13_fails 21 = .ok (.getfield 184, 3) := by decide +kernel
theorem dX13_fails_24 : decode cX13_fails 24 = .ok (.iconst (-1), 1) := by decide +kernel
theorem dX13_fails_25 : decode cX13_fails 25 = .ok (.if_icmp .eq 7, 3) := by decide +kernel
theorem dX13_fails_28 : decode cX13_fails 28 = .ok (.iconst 1, 1) := by decide +kernel
theorem dX13_fails_29 : decode cX13_fails 29 = .ok (.goto 4, 3) := by decide +kernel
theorem dX13_fails_32 : decode cX13_fails 32 = .ok (.iconst 0, 1) := by decide +kernel
theorem dX13_fails_33 : decode cX13_fails 33 = .ok (.istore_n 2, 1) := by decide +kernel
theorem dX13_fails_34 : decode cX13_fails 34 = .ok (.aload_n 0, 1) := by decide +kernel
theorem dX13_fails_35 : decode cX13_fails 35 = .ok (.iload_n 2, 1) := by decide +kernel
theorem dX13_fails_36 : decode cX13_fails 36 = .ok (.ifCond .eq 7, 3) := by decide +kernel
theorem dX13_fails_39 : decode cX13_fails 39 = .ok (.iconst 1, 1) := by decide +kernel
theorem dX13_fails_40 : decode cX13_fails 40 = .ok (.goto 4, 3) := by decide +kernel
theorem dX13_fails_43 : decode cX13_fails 43 = .ok (.iload_n 1, 1) := by decide +kernel
theorem dX13_fails_44 : decode cX13_fails 44 = .ok (.putfield 230, 3) := by decide +kernel
theorem dX13_fails_47 : decode cX13_fails 47 = .ok (.aload_n 0, 1) := by decide +kernel
theorem dX13_fails_48 : decode cX13_fails 48 = .ok (.iload_n 2, 1) := by decide +kernel
theorem dX13_fails_49 : decode cX13_fails 49 = .ok (.ifCond .eq 10, 3) := by decide +kernel
theorem dX13_fails_52 : decode cX13_fails 52 = .ok (.aload_n 0, 1) := by decide +kernel
theorem dX13_fails_53 : decode cX13_fails 53 = .ok (.getfield 184, 3) := by decide +kernel
theorem dX13_fails_56 : decode cX13_fails 56 = .ok (.goto 12, 3) := by decide +kernel
theorem dX13_fails_59 : decode cX13_fails 59 = .ok (.aload_n 0, 1) := by decide +kernel
theorem dX13_fails_60 : decode cX13_fails 60 = .ok (.getfield 22, 3) := by decide +kernel
theorem dX13_fails_63 : decode cX13_fails 63 = .ok (.aload_n 0, 1) := by decide +kernel
theorem dX13_fails_64 : decode cX13_fails 64 = .ok (.getfield 233, 3) := by decide +kernel
theorem dX13_fails_67 : decode cX13_fails 67 = .ok (.iaload, 1) := by decide +kernel
theorem dX13_fails_68 : decode cX13_fails 68 = .ok (.putfield 236, 3) := by decide +kernel
theorem dX13_fails_71 : decode cX13_fails 71 = .ok (.iconst 0, 1) := by decide +kernel
theorem dX13_fails_72 : decode cX13_fails 72 = .ok (.ireturn, 1) := by decide +kernel
theorem dX13_constantTold_0 : decode cX13_constantTold 0 = .ok (.aload_n 0, 1) := by decide +kernel
theorem dX13_constantTold_1 : decode cX13_constantTold 1 = .ok (.invokevirtual 317, 3) := by decide +kernel
theorem dX13_constantTold_4 : decode cX13_constantTold 4 = .ok (.istore_n 1, 1) := by decide +kernel
theorem dX13_constantTold_5 : decode cX13_constantTold 5 = .ok (.aload_n 0, 1) := by decide +kernel
theorem dX13_constantTold_6 : decode cX13_constantTold 6 = .ok (.bipush 32, 2) := by decide +kernel
theorem dX13_constantTold_8 : decode cX13_constantTold 8 = .ok (.invokevirtual 273, 3) := by decide +kernel
theorem dX13_constantTold_11 : decode cX13_constantTold 11 = .ok (.ifCond .ne 5, 3) := by decide +kernel
theorem dX13_constantTold_14 : decode cX13_constantTold 14 = .ok (.iconst 0, 1) := by decide +kernel
theorem dX13_constantTold_15 : decode cX13_constantTold 15 = .ok (.ireturn, 1) := by decide +kernel
theorem dX13_constantTold_16 : decode cX13_constantTold 16 = .ok (.aload_n 0, 1) := by decide +kernel
theorem dX13_constantTold_17 : decode cX13_constantTold 17 = .ok (.invokevirtual 330, 3) := by decide +kernel
theorem dX13_constantTold_20 : decode cX13_constantTold 20 = .ok (.istore_n 2, 1) := by decide +kernel
theorem dX13_constantTold_21 : decode cX13_constantTold 21 = .ok (.aload_n 0, 1) := by decide +kernel
theorem dX13_constantTold_22 : decode cX13_constantTold 22 = .ok (.getfield 230, 3) := by decide +kernel
theorem dX13_constantTold_25 : decode cX13_constantTold 25 = .ok (.ifCond .le 5, 3) := by decide +kernel
theorem dX13_constantTold_28 : decode cX13_constantTold 28 = .ok (.iconst 0, 1) := by decide +kernel
theorem dX13_constantTold_29 : decode cX13_constantTold 29 = .ok (.ireturn, 1) := by decide +kernel
theorem dX13_constantTold_30 : decode cX13_constantTold 30 = .ok (.aload_n 0, 1) := by decide +kernel
theorem dX13_constantTold_31 : decode cX13_constantTold 31 = .ok (.getfield 345, 3) := by decide +kernel
theorem dX13_constantTold_34 : decode cX13_constantTold 34 = .ok (.istore_n 3, 1) := by decide +kernel
theorem dX13_constantTold_35 : decode cX13_constantTold 35 = .ok (.aload_n 0, 1) := by decide +kernel
theorem dX13_constantTold_36 : decode cX13_constantTold 36 = .ok (.iload_n 1, 1) := by decide +kernel
theorem dX13_constantTold_37 : decode cX13_constantTold 37 = .ok (.invokevirtual 348, 3) := by decide +kernel
theorem dX13_constantTold_40 : decode cX13_constantTold 40 = .ok (.aload_n 0, 1) := by decide +kernel
theorem dX13_constantTold_41 : decode cX13_constantTold 41 = .ok (.iload_n 1, 1) := by decide +kernel
theorem dX13_constantTold_42 : decode cX13_constantTold 42 = .ok (.iconst 0, 1) := by decide +kernel
theorem dX13_constantTold_43 : decode cX13_constantTold 43 = .ok (.iconst 0, 1) := by decide +kernel
theorem dX13_constantTold_44 : decode cX13_constantTold 44 = .ok (.iload_n 2, 1) := by decide +kernel
theorem dX13_constantTold_45 : decode cX13_constantTold 45 = .ok (.iload_n 3, 1) := by decide +kernel
theorem dX13_constantTold_46 : decode cX13_constantTold 46 = .ok (.ifCond .eq 7, 3) := by decide +kernel
theorem dX13_constantTold_49 : decode cX13_constantTold 49 = .ok (.iconst (-1), 1) := by decide +kernel
theorem dX13_constantTold_50 : decode cX13_constantTold 50 = .ok (.goto 4, 3) := by decide +kernel
theorem dX13_constantTold_53 : decode cX13_constantTold 53 = .ok (.iconst 1, 1) := by decide +kernel
theorem dX13_constantTold_54 : decode cX13_constantTold 54 = .ok (.iconst 0, 1) := by decide +kernel
theorem dX13_constantTold_55 : decode cX13_constantTold 55 = .ok (.invokevirtual 338, 3) := by decide +kernel
theorem dX13_constantTold_58 : decode cX13_constantTold 58 = .ok (.aload_n 0, 1) := by decide +kernel
theorem dX13_constantTold_59 : decode cX13_constantTold 59 = .ok (.bipush 29, 2) := by decide +kernel
theorem dX13_constantTold_61 : decode cX13_constantTold 61 = .ok (.invokevirtual 273, 3) := by decide +kernel
theorem dX13_constantTold_64 : decode cX13_constantTold 64 = .ok (.ireturn, 1) := by decide +kernel
theorem dX13_name_0 : decode cX13_name 0 = .ok (.aload_n 0, 1) := by decide +kernel
theorem dX13_name_1 : decode cX13_name 1 = .ok (.getfield 230, 3) := by decide +kernel
theorem dX13_name_4 : decode cX13_name 4 = .ok (.ifCond .gt 16, 3) := by decide +kernel
theorem dX13_name_7 : decode cX13_name 7 = .ok (.aload_n 0, 1) := by decide +kernel
theorem dX13_name_8 : decode cX13_name 8 = .ok (.getfield 16, 3) := by decide +kernel
theorem dX13_name_11 : decode cX13_name 11 = .ok (.aload_n 0, 1) := by decide +kernel
theorem dX13_name_12 : decode cX13_name 12 = .ok (.getfield 233, 3) := by decide +kernel
theorem dX13_name_15 : decode cX13_name 15 = .ok (.iaload, 1) := by decide +kernel
theorem dX13_name_16 : decode cX13_name 16 = .ok (.iconst 1, 1) := by decide +kernel
theorem dX13_name_17 : decode cX13_name 17 = .ok (.if_icmp .eq 11, 3) := by decide +kernel
theorem dX13_name_20 : decode cX13_name 20 = .ok (.aload_n 0, 1) := by decide +kernel
theorem dX13_name_21 : decode cX13_name 21 = .ok (.iconst 2, 1) := by decide +kernel
theorem dX13_name_22 : decode cX13_name 22 = .ok (.invokevirtual 260, 3) := by decide +kernel
theorem dX13_name_25 : decode cX13_name 25 = .ok (.pop, 1) := by decide +kernel
theorem dX13_name_26 : decode cX13_name 26 = .ok (.iconst 0, 1) := by decide +kernel
theorem dX13_name_27 : decode cX13_name 27 = .ok (.ireturn, 1) := by decide +kernel
theorem dX13_name_28 : decode cX13_name 28 = .ok (.aload_n 0, 1) := by decide +kernel
theorem dX13_name_29 : decode cX13_name 29 = .ok (.dup, 1) := by decide +kernel
theorem dX13_name_30 : decode cX13_name 30 = .ok (.getfield 233, 3) := by decide +kernel
theorem dX13_name_33 : decode cX13_name 33 = .ok (.iconst 1, 1) := by decide +kernel
theorem dX13_name_34 : decode cX13_name 34 = .ok (.iadd, 1) := by decide +kernel
theorem dX13_name_35 : decode cX13_name 35 = .ok (.putfield 233, 3) := by decide +kernel
theorem dX13_name_38 : decode cX13_name 38 = .ok (.aload_n 0, 1) := by decide +kernel
theorem dX13_name_39 : decode cX13_name 39 = .ok (.getfield 233, 3) := by decide +kernel
theorem dX13_name_42 : decode cX13_name 42 = .ok (.iconst 1, 1) := by decide +kernel
theorem dX13_name_43 : decode cX13_name 43 = .ok (.isub, 1) := by decide +kernel
theorem dX13_name_44 : decode cX13_name 44 = .ok (.ireturn, 1) := by decide +kernel
theorem dX13_sign_0 : decode cX13_sign 0 = .ok (.aload_n 0, 1) := by decide +kernel
theorem dX13_sign_1 : decode cX13_sign 1 = .ok (.getfield 230, 3) := by decide +kernel
theorem dX13_sign_4 : decode cX13_sign 4 = .ok (.ifCond .gt 11, 3) := by decide +kernel
theorem dX13_sign_7 : decode cX13_sign 7 = .ok (.aload_n 0, 1) := by decide +kernel
theorem dX13_sign_8 : decode cX13_sign 8 = .ok (.iload_n 1, 1) := by decide +kernel
theorem dX13_sign_9 : decode cX13_sign 9 = .ok (.invokevirtual 257, 3) := by decide +kernel
theorem dX13_sign_12 : decode cX13_sign 12 = .ok (.ifCond .ne 9, 3) := by decide +kernel
theorem dX13_sign_15 : decode cX13_sign 15 = .ok (.aload_n 0, 1) := by decide +kernel
theorem dX13_sign_16 : decode cX13_sign 16 = .ok (.iconst 2, 1) := by decide +kernel
theorem dX13_sign_17 : decode cX13_sign 17 = .ok (.invokevirtual 260, 3) := by decide +kernel
theorem dX13_sign_20 : decode cX13_sign 20 = .ok (.ireturn, 1) := by decide +kernel
theorem dX13_sign_21 : decode cX13_sign 21 = .ok (.aload_n 0, 1) := by decide +kernel
theorem dX13_sign_22 : decode cX13_sign 22 = .ok (.dup, 1) := by decide +kernel
theorem dX13_sign_23 : decode cX13_sign 23 = .ok (.getfield 233, 3) := by decide +kernel
theorem dX13_sign_26 : decode cX13_sign 26 = .ok (.iconst 1, 1) := by decide +kernel
theorem dX13_sign_27 : decode cX13_sign 27 = .ok (.iadd, 1) := by decide +kernel
theorem dX13_sign_28 : decode cX13_sign 28 = .ok (.putfield 233, 3) := by decide +kernel
theorem dX13_sign_31 : decode cX13_sign 31 = .ok (.iconst 1, 1) := by decide +kernel
theorem dX13_sign_32 : decode cX13_sign 32 = .ok (.ireturn, 1) := by decide +kernel
theorem dX13_isSign_0 : decode cX13_isSign 0 = .ok (.aload_n 0, 1) := by decide +kernel
theorem dX13_isSign_1 : decode cX13_isSign 1 = .ok (.getfield 16, 3) := by decide +kernel
theorem dX13_isSign_4 : decode cX13_isSign 4 = .ok (.aload_n 0, 1) := by decide +kernel
theorem dX13_isSign_5 : decode cX13_isSign 5 = .ok (.getfield 233, 3) := by decide +kernel
theorem dX13_isSign_8 : decode cX13_isSign 8 = .ok (.iaload, 1) := by decide +kernel
theorem dX13_isSign_9 : decode cX13_isSign 9 = .ok (.iconst 4, 1) := by decide +kernel
theorem dX13_isSign_10 : decode cX13_isSign 10 = .ok (.if_icmp .ne 20, 3) := by decide +kernel
theorem dX13_isSign_13 : decode cX13_isSign 13 = .ok (.aload_n 0, 1) := by decide +kernel
theorem dX13_isSign_14 : decode cX13_isSign 14 = .ok (.getfield 19, 3) := by decide +kernel
theorem dX13_isSign_17 : decode cX13_isSign 17 = .ok (.aload_n 0, 1) := by decide +kernel
theorem dX13_isSign_18 : decode cX13_isSign 18 = .ok (.getfield 233, 3) := by decide +kernel
theorem dX13_isSign_21 : decode cX13_isSign 21 = .ok (.iaload, 1) := by decide +kernel
theorem dX13_isSign_22 : decode cX13_isSign 22 = .ok (.iload_n 1, 1) := by decide +kernel
theorem dX13_isSign_23 : decode cX13_isSign 23 = .ok (.if_icmp .ne 7, 3) := by decide +kernel
theorem dX13_isSign_26 : decode cX13_isSign 26 = .ok (.iconst 1, 1) := by decide +kernel
theorem dX13_isSign_27 : decode cX13_isSign 27 = .ok (.goto 4, 3) := by decide +kernel
theorem dX13_isSign_30 : decode cX13_isSign 30 = .ok (.iconst 0, 1) := by decide +kernel
theorem dX13_isSign_31 : decode cX13_isSign 31 = .ok (.ireturn, 1) := by decide +kernel
theorem dX13_value_0 : decode cX13_value 0 = .ok (.aload_n 0, 1) := by decide +kernel
theorem dX13_value_1 : decode cX13_value 1 = .ok (.getfield 365, 3) := by decide +kernel
theorem dX13_value_4 : decode cX13_value 4 = .ok (.istore_n 1, 1) := by decide +kernel
theorem dX13_value_5 : decode cX13_value 5 = .ok (.aload_n 0, 1) := by decide +kernel
theorem dX13_value_6 : decode cX13_value 6 = .ok (.iconst 1, 1) := by decide +kernel
theorem dX13_value_7 : decode cX13_value 7 = .ok (.putfield 365, 3) := by decide +kernel
theorem dX13_value_10 : decode cX13_value 10 = .ok (.aload_n 0, 1) := by decide +kernel
theorem dX13_value_11 : decode cX13_value 11 = .ok (.iconst 0, 1) := by decide +kernel
theorem dX13_value_12 : decode cX13_value 12 = .ok (.putfield 345, 3) := by decide +kernel
theorem dX13_value_15 : decode cX13_value 15 = .ok (.aload_n 0, 1) := by decide +kernel
theorem dX13_value_16 : decode cX13_value 16 = .ok (.getfield 276, 3) := by decide +kernel
theorem dX13_value_19 : decode cX13_value 19 = .ok (.istore_n 2, 1) := by decide +kernel
theorem dX13_value_20 : decode cX13_value 20 = .ok (.aload_n 0, 1) := by decide +kernel
theorem dX13_value_21 : decode cX13_value 21 = .ok (.invokevirtual 368, 3) := by decide +kernel
theorem dX13_value_24 : decode cX13_value 24 = .ok (.pop, 1) := by decide +kernel
theorem dX13_value_25 : decode cX13_value 25 = .ok (.aload_n 0, 1) := by decide +kernel
theorem dX13_value_26 : decode cX13_value 26 = .ok (.iload_n 1, 1) := by decide +kernel
theorem dX13_value_27 : decode cX13_value 27 = .ok (.putfield 365, 3) := by decide +kernel
theorem dX13_value_30 : decode cX13_value 30 = .ok (.aload_n 0, 1) := by decide +kernel
theorem dX13_value_31 : decode cX13_value 31 = .ok (.getfield 230, 3) := by decide +kernel
theorem dX13_value_34 : decode cX13_value 34 = .ok (.ifCond .gt 17, 3) := by decide +kernel
theorem dX13_value_37 : decode cX13_value 37 = .ok (.aload_n 0, 1) := by decide +kernel
theorem dX13_value_38 : decode cX13_value 38 = .ok (.getfield 245, 3) := by decide +kernel
theorem dX13_value_41 : decode cX13_value 41 = .ok (.ifCond .eq 10, 3) := by decide +kernel
theorem dX13_value_44 : decode cX13_value 44 = .ok (.aload_n 0, 1) := by decide +kernel
theorem dX13_value_45 : decode cX13_value 45 = .ok (.getfield 345, 3) := by decide +kernel
theorem dX13_value_48 : decode cX13_value 48 = .ok (.ifCond .eq 7, 3) := by decide +kernel
theorem dX13_value_51 : decode cX13_value 51 = .ok (.iconst 0, 1) := by decide +kernel
theorem dX13_value_52 : decode cX13_value 52 = .ok (.goto 8, 3) := by decide +kernel
theorem dX13_value_55 : decode cX13_value 55 = .ok (.aload_n 0, 1) := by decide +kernel
theorem dX13_value_56 : decode cX13_value 56 = .ok (.iload_n 2, 1) := by decide +kernel
theorem dX13_value_57 : decode cX13_value 57 = .ok (.invokevirtual 371, 3) := by decide +kernel
theorem dX13_value_60 : decode cX13_value 60 = .ok (.istore_n 3, 1) := by decide +kernel
theorem dX13_value_61 : decode cX13_value 61 = .ok (.aload_n 0, 1) := by decide +kernel
theorem dX13_value_62 : decode cX13_value 62 = .ok (.iload_n 2, 1) := by decide +kernel
theorem dX13_value_63 : decode cX13_value 63 = .ok (.putfield 276, 3) := by decide +kernel
theorem dX13_value_66 : decode cX13_value 66 = .ok (.iload_n 3, 1) := by decide +kernel
theorem dX13_value_67 : decode cX13_value 67 = .ok (.ireturn, 1) := by decide +kernel
theorem dX13_expression_0 : decode cX13_expression 0 = .ok (.aload_n 0, 1) := by decide +kernel
theorem dX13_expression_1 : decode cX13_expression 1 = .ok (.invokevirtual 463, 3) := by decide +kernel
theorem dX13_expression_4 : decode cX13_expression 4 = .ok (.ifCond .ne 5, 3) := by decide +kernel
theorem dX13_expression_7 : decode cX13_expression 7 = .ok (.iconst 0, 1) := by decide +kernel
theorem dX13_expression_8 : decode cX13_expression 8 = .ok (.ireturn, 1) := by decide +kernel
theorem dX13_expression_9 : decode cX13_expression 9 = .ok (.aload_n 0, 1) := by decide +kernel
theorem dX13_expression_10 : decode cX13_expression 10 = .ok (.bipush 30, 2) := by decide +kernel
theorem dX13_expression_12 : decode cX13_expression 12 = .ok (.invokevirtual 257, 3) := by decide +kernel
theorem dX13_expression_15 : decode cX13_expression 15 = .ok (.ifCond .ne 5, 3) := by decide +kernel
theorem dX13_expression_18 : decode cX13_expression 18 = .ok (.iconst 1, 1) := by decide +kernel
theorem dX13_expression_19 : decode cX13_expression 19 = .ok (.ireturn, 1) := by decide +kernel
theorem dX13_expression_20 : decode cX13_expression 20 = .ok (.aload_n 0, 1) := by decide +kernel
theorem dX13_expression_21 : decode cX13_expression 21 = .ok (.invokevirtual 269, 3) := by decide +kernel
theorem dX13_expression_24 : decode cX13_expression 24 = .ok (.ifCond .ne 5, 3) := by decide +kernel
theorem dX13_expression_27 : decode cX13_expression 27 = .ok (.iconst 0, 1) := by decide +kernel
theorem dX13_expression_28 : decode cX13_expression 28 = .ok (.ireturn, 1) := by decide +kernel
theorem dX13_expression_29 : decode cX13_expression 29 = .ok (.aload_n 0, 1) := by decide +kernel
theorem dX13_expression_30 : decode cX13_expression 30 = .ok (.bipush 13, 2) := by decide +kernel
theorem dX13_expression_32 : decode cX13_expression 32 = .ok (.iconst 0, 1) := by decide +kernel
theorem dX13_expression_33 : decode cX13_expression 33 = .ok (.iconst 0, 1) := by decide +kernel
theorem dX13_expression_34 : decode cX13_expression 34 = .ok (.invokevirtual 401, 3) := by decide +kernel
theorem dX13_expression_37 : decode cX13_expression 37 = .ok (.istore_n 1, 1) := by decide +kernel
theorem dX13_expression_38 : decode cX13_expression 38 = .ok (.aload_n 0, 1) := by decide +kernel
theorem dX13_expression_39 : decode cX13_expression 39 = .ok (.invokevirtual 368, 3) := by decide +kernel
theorem dX13_expression_42 : decode cX13_expression 42 = .ok (.ifCond .eq 12, 3) := by decide +kernel
theorem dX13_expression_45 : decode cX13_expression 45 = .ok (.aload_n 0, 1) := by decide +kernel
theorem dX13_expression_46 : decode cX13_expression 46 = .ok (.bipush 31, 2) := by decide +kernel
theorem dX13_expression_48 : decode cX13_expression 48 = .ok (.invokevirtual 273, 3) := by decide +kernel
theorem dX13_expression_51 : decode cX13_expression 51 = .ok (.ifCond .ne 5, 3) := by decide +kernel
theorem dX13_expression_54 : decode cX13_expression 54 = .ok (.iconst 0, 1) := by decide +kernel
theorem dX13_expression_55 : decode cX13_expression 55 = .ok (.ireturn, 1) := by decide +kernel
theorem dX13_expression_56 : decode cX13_expression 56 = .ok (.aload_n 0, 1) := by decide +kernel
theorem dX13_expression_57 : decode cX13_expression 57 = .ok (.bipush 12, 2) := by decide +kernel
theorem dX13_expression_59 : decode cX13_expression 59 = .ok (.iconst 0, 1) := by decide +kernel
theorem dX13_expression_60 : decode cX13_expression 60 = .ok (.iconst 0, 1) := by decide +kernel
theorem dX13_expression_61 : decode cX13_expression 61 = .ok (.invokevirtual 401, 3) := by decide +kernel
theorem dX13_expression_64 : decode cX13_expression 64 = .ok (.istore_n 2, 1) := by decide +kernel
theorem dX13_expression_65 : decode cX13_expression 65 = .ok (.aload_n 0, 1) := by decide +kernel
theorem dX13_expression_66 : decode cX13_expression 66 = .ok (.getfield 107, 3) := by decide +kernel
theorem dX13_expression_69 : decode cX13_expression 69 = .ok (.iload_n 1, 1) := by decide +kernel
theorem dX13_expression_70 : decode cX13_expression 70 = .ok (.aload_n 0, 1) := by decide +kernel
theorem dX13_expression_71 : decode cX13_expression 71 = .ok (.getfield 276, 3) := by decide +kernel
theorem dX13_expression_74 : decode cX13_expression 74 = .ok (.iastore, 1) := by decide +kernel
theorem dX13_expression_75 : decode cX13_expression 75 = .ok (.aload_n 0, 1) := by decide +kernel
theorem dX13_expression_76 : decode cX13_expression 76 = .ok (.invokevirtual 368, 3) := by decide +kernel
theorem dX13_expression_79 : decode cX13_expression 79 = .ok (.ifCond .ne 5, 3) := by decide +kernel
theorem dX13_expression_82 : decode cX13_expression 82 = .ok (.iconst 0, 1) := by decide +kernel
theorem dX13_expression_83 : decode cX13_expression 83 = .ok (.ireturn, 1) := by decide +kernel
theorem dX13_expression_84 : decode cX13_expression 84 = .ok (.aload_n 0, 1) := by decide +kernel
theorem dX13_expression_85 : decode cX13_expression 85 = .ok (.getfield 107, 3) := by decide +kernel
theorem dX13_expression_88 : decode cX13_expression 88 = .ok (.iload_n 2, 1) := by decide +kernel
theorem dX13_expression_89 : decode cX13_expression 89 = .ok (.aload_n 0, 1) := by decide +kernel
theorem dX13_expression_90 : decode cX13_expression 90 = .ok (.getfield 276, 3) := by decide +kernel
theorem dX13_expression_93 : decode cX13_expression 93 = .ok (.iastore, 1) := by decide +kernel
theorem dX13_expression_94 : decode cX13_expression 94 = .ok (.aload_n 0, 1) := by decide +kernel
theorem dX13_expression_95 : decode cX13_expression 95 = .ok (.dup, 1) := by decide +kernel
theorem dX13_expression_96 : decode cX13_expression 96 = .ok (.getfield 266, 3) := by decide +kernel
theorem dX13_expression_99 : decode cX13_expression 99 = .ok (.iconst 1, 1) := by decide +kernel
theorem dX13_expression_100 : decode cX13_expression 100 = .ok (.isub, 1) := by decide +kernel
theorem dX13_expression_101 : decode cX13_expression 101 = .ok (.putfield 266, 3) := by decide +kernel
theorem dX13_expression_104 : decode cX13_expression 104 = .ok (.iconst 1, 1) := by decide +kernel
theorem dX13_expression_105 : decode cX13_expression 105 = .ok (.ireturn, 1) := by decide +kernel
theorem dX13_chain_0 : decode cX13_chain 0 = .ok (.aload_n 0, 1) := by decide +kernel
theorem dX13_chain_1 : decode cX13_chain 1 = .ok (.getfield 285, 3) := by decide +kernel
theorem dX13_chain_4 : decode cX13_chain 4 = .ok (.istore_n 1, 1) := by decide +kernel
theorem dX13_chain_5 : decode cX13_chain 5 = .ok (.aload_n 0, 1) := by decide +kernel
theorem dX13_chain_6 : decode cX13_chain 6 = .ok (.invokevirtual 466, 3) := by decide +kernel
theorem dX13_chain_9 : decode cX13_chain 9 = .ok (.istore_n 2, 1) := by decide +kernel
theorem dX13_chain_10 : decode cX13_chain 10 = .ok (.iload_n 2, 1) := by decide +kernel
theorem dX13_chain_11 : decode cX13_chain 11 = .ok (.ifCond .eq 136, 3) := by decide +kernel
theorem dX13_chain_14 : decode cX13_chain 14 = .ok (.aload_n 0, 1) := by decide +kernel
theorem dX13_chain_15 : decode cX13_chain 15 = .ok (.invokevirtual 469, 3) := by decide +kernel
theorem dX13_chain_18 : decode cX13_chain 18 = .ok (.istore_n 3, 1) := by decide +kernel
theorem dX13_chain_19 : decode cX13_chain 19 = .ok (.aload_n 0, 1) := by decide +kernel
theorem dX13_chain_20 : decode cX13_chain 20 = .ok (.getfield 285, 3) := by decide +kernel
theorem dX13_chain_23 : decode cX13_chain 23 = .ok (.iload_n 1, 1) := by decide +kernel
theorem dX13_chain_24 : decode cX13_chain 24 = .ok (.if_icmp .le 25, 3) := by decide +kernel
theorem dX13_chain_27 : decode cX13_chain 27 = .ok (.aload_n 0, 1) := by decide +kernel
theorem dX13_chain_28 : decode cX13_chain 28 = .ok (.getfield 119, 3) := by decide +kernel
theorem dX13_chain_31 : decode cX13_chain 31 = .ok (.aload_n 0, 1) := by decide +kernel
theorem dX13_chain_32 : decode cX13_chain 32 = .ok (.getfield 285, 3) := by decide +kernel
theorem dX13_chain_35 : decode cX13_chain 35 = .ok (.iconst 1, 1) := by decide +kernel
theorem dX13_chain_36 : decode cX13_chain 36 = .ok (.isub, 1) := by decide +kernel
theorem dX13_chain_37 : decode cX13_chain 37 = .ok (.iaload, 1) := by decide +kernel
theorem dX13_chain_38 : decode cX13_chain 38 = .ok (.iload_n 3, 1) := by decide +kernel
theorem dX13_chain_39 : decode cX13_chain 39 = .ok (.if_icmp .lt 10, 3) := by decide +kernel
theorem dX13_chain_42 : decode cX13_chain 42 = .ok (.aload_n 0, 1) := by decide +kernel
theorem dX13_chain_43 : decode cX13_chain 43 = .ok (.invokevirtual 472, 3) := by decide +kernel
theorem dX13_chain_46 : decode cX13_chain 46 = .ok (.goto (-27), 3) := by decide +kernel
theorem dX13_chain_49 : decode cX13_chain 49 = .ok (.iload_n 3, 1) := by decide +kernel
theorem dX13_chain_50 : decode cX13_chain 50 = .ok (.iconst (-1), 1) := by decide +kernel
theorem dX13_chain_51 : decode cX13_chain 51 = .ok (.if_icmp .ne 5, 3) := by decide +kernel
theorem dX13_chain_54 : decode cX13_chain 54 = .ok (.iconst 1, 1) := by decide +kernel
theorem dX13_chain_55 : decode cX13_chain 55 = .ok (.ireturn, 1) := by decide +kernel
theorem dX13_chain_56 : decode cX13_chain 56 = .ok (.aload_n 0, 1) := by decide +kernel
theorem dX13_chain_57 : decode cX13_chain 57 = .ok (.getfield 116, 3) := by decide +kernel
theorem dX13_chain_60 : decode cX13_chain 60 = .ok (.aload_n 0, 1) := by decide +kernel
theorem dX13_chain_61 : decode cX13_chain 61 = .ok (.getfield 285, 3) := by decide +kernel
theorem dX13_chain_64 : decode cX13_chain 64 = .ok (.aload_n 0, 1) := by decide +kernel
theorem dX13_chain_65 : decode cX13_chain 65 = .ok (.getfield 19, 3) := by decide +kernel
theorem dX13_chain_68 : decode cX13_chain 68 = .ok (.aload_n 0, 1) := by decide +kernel
theorem dX13_chain_69 : decode cX13_chain 69 = .ok (.getfield 233, 3) := by decide +kernel
theorem dX13_chain_72 : decode cX13_chain 72 = .ok (.iaload, 1) := by decide +kernel
theorem dX13_chain_73 : decode cX13_chain 73 = .ok (.iastore, 1) := by decide +kernel
theorem dX13_chain_74 : decode cX13_chain 74 = .ok (.aload_n 0, 1) := by decide +kernel
theorem dX13_chain_75 : decode cX13_chain 75 = .ok (.getfield 119, 3) := by decide +kernel
theorem dX13_chain_78 : decode cX13_chain 78 = .ok (.aload_n 0, 1) := by decide +kernel
theorem dX13_chain_79 : decode cX13_chain 79 = .ok (.getfield 285, 3) := by decide +kernel
theorem dX13_chain_82 : decode cX13_chain 82 = .ok (.iload_n 3, 1) := by decide +kernel
theorem dX13_chain_83 : decode cX13_chain 83 = .ok (.iastore, 1) := by decide +kernel
theorem dX13_chain_84 : decode cX13_chain 84 = .ok (.aload_n 0, 1) := by decide +kernel
theorem dX13_chain_85 : decode cX13_chain 85 = .ok (.getfield 122, 3) := by decide +kernel
theorem dX13_chain_88 : decode cX13_chain 88 = .ok (.aload_n 0, 1) := by decide +kernel
theorem dX13_chain_89 : decode cX13_chain 89 = .ok (.getfield 285, 3) := by decide +kernel
theorem dX13_chain_92 : decode cX13_chain 92 = .ok (.iload_n 3, 1) := by decide +kernel
theorem dX13_chain_93 : decode cX13_chain 93 = .ok (.iconst 1, 1) := by decide +kernel
theorem dX13_chain_94 : decode cX13_chain 94 = .ok (.if_icmp .le 7, 3) := by decide +kernel
theorem dX13_chain_97 : decode cX13_chain 97 = .ok (.iconst (-1), 1) := by decide +kernel
theorem dX13_chain_98 : decode cX13_chain 98 = .ok (.goto 20, 3) := by decide +kernel
theorem dX13_chain_101 : decode cX13_chain 101 = .ok (.aload_n 0, 1) := by decide +kernel
theorem dX13_chain_102 : decode cX13_chain 102 = .ok (.iload_n 3, 1) := by decide +kernel
theorem dX13_chain_103 : decode cX13_chain 103 = .ok (.ifCond .ne 8, 3) := by decide +kernel
theorem dX13_chain_106 : decode cX13_chain 106 = .ok (.bipush 14, 2) := by decide +kernel
theorem dX13_chain_108 : decode cX13_chain 108 = .ok (.goto 5, 3) := by decide +kernel
theorem dX13_chain_111 : decode cX13_chain 111 = .ok (.bipush 13, 2) := by decide +kernel
theorem dX13_chain_113 : decode cX13_chain 113 = .ok (.iconst 0, 1) := by decide +kernel
theorem dX13_chain_114 : decode cX13_chain 114 = .ok (.iconst 0, 1) := by decide +kernel
theorem dX13_chain_115 : decode cX13_chain 115 = .ok (.invokevirtual 401, 3) := by decide +kernel
theorem dX13_chain_118 : decode cX13_chain 118 = .ok (.iastore, 1) := by decide +kernel
theorem dX13_chain_119 : decode cX13_chain 119 = .ok (.aload_n 0, 1) := by decide +kernel
theorem dX13_chain_120 : decode cX13_chain 120 = .ok (.dup, 1) := by decide +kernel
theorem dX13_chain_121 : decode cX13_chain 121 = .ok (.getfield 285, 3) := by decide +kernel
theorem dX13_chain_124 : decode cX13_chain 124 = .ok (.iconst 1, 1) := by decide +kernel
theorem dX13_chain_125 : decode cX13_chain 125 = .ok (.iadd, 1) := by decide +kernel
theorem dX13_chain_126 : decode cX13_chain 126 = .ok (.putfield 285, 3) := by decide +kernel
theorem dX13_chain_129 : decode cX13_chain 129 = .ok (.aload_n 0, 1) := by decide +kernel
theorem dX13_chain_130 : decode cX13_chain 130 = .ok (.dup, 1) := by decide +kernel
theorem dX13_chain_131 : decode cX13_chain 131 = .ok (.getfield 233, 3) := by decide +kernel
theorem dX13_chain_134 : decode cX13_chain 134 = .ok (.iconst 1, 1) := by decide +kernel
theorem dX13_chain_135 : decode cX13_chain 135 = .ok (.iadd, 1) := by decide +kernel
theorem dX13_chain_136 : decode cX13_chain 136 = .ok (.putfield 233, 3) := by decide +kernel
theorem dX13_chain_139 : decode cX13_chain 139 = .ok (.aload_n 0, 1) := by decide +kernel
theorem dX13_chain_140 : decode cX13_chain 140 = .ok (.invokevirtual 466, 3) := by decide +kernel
theorem dX13_chain_143 : decode cX13_chain 143 = .ok (.istore_n 2, 1) := by decide +kernel
theorem dX13_chain_144 : decode cX13_chain 144 = .ok (.goto (-134), 3) := by decide +kernel
theorem dX13_chain_147 : decode cX13_chain 147 = .ok (.iconst 0, 1) := by decide +kernel
theorem dX13_chain_148 : decode cX13_chain 148 = .ok (.ireturn, 1) := by decide +kernel
