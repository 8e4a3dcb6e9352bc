/-! names: X10_sum X10_into X10_from X10_slotOf X10_half X10_made X10_bring X10_memory (tools/chunk.py) -/
set_option maxRecDepth 100000
theorem q1929 : (Jvm.Cond.fieldLinkNest "CompiledHouse$Layer" (229 : Nat) "CompiledHouse$Act" "b" "J" "CompiledHouse") ∈ lw_tbl := lw_at lw_m8 53 rfl
theorem f_X10_229_35 : xF RX10 229 35 3 := ⟨_, "CompiledHouse$Act", rfl, by decide, Or.inr ⟨_, q1929⟩, Or.inl rfl⟩
theorem q2788 : (Jvm.Cond.methodLink "CompiledHouse$Layer" (232 : Nat) ({ cls := "CompiledHouse$Layer", name := "isSmall", desc := "(J)Z" } : Jvm.MethodName)) ∈ lw_all := lw_g (lw_at lw_m11 192 rfl) rfl
theorem lk_X10_232 : xLk RX10 232 yX10_isSmall := Or.inl q2788
theorem q2791 : (Jvm.Cond.methodLink "CompiledHouse$Layer" (235 : Nat) ({ cls := "java/lang/Integer", name := "numberOfTrailingZeros", desc := "(I)I" } : Jvm.MethodName)) ∈ lw_all := lw_g (lw_at lw_m11 195 rfl) rfl
theorem lk_X10_235 : xLk RX10 235 yJ15_numberOfTrailingZeros := Or.inl q2791
theorem q2792 : (Jvm.Cond.methodLink "CompiledHouse$Layer" (238 : Nat) ({ cls := "CompiledHouse$Layer", name := "half", desc := "(ZIII)V" } : Jvm.MethodName)) ∈ lw_all := lw_g (lw_at lw_m11 196 rfl) rfl
abbrev cX10_half : ByteArray := prog_17_method_17_code
def yX10_half : MethodName := ⟨RX10, "half", "(ZIII)V"⟩
theorem q2795 : (Jvm.Cond.code ({ cls := "CompiledHouse$Layer", name := "half", desc := "(ZIII)V" } : Jvm.MethodName) prog_17_method_17_code (5 : Nat) (Option.none : Option Jvm.ClassFile.FieldType)) ∈ lw_all := lw_g (lw_at lw_m11 199 rfl) rfl
def kX10_half : xK := (yX10_half, cX10_half, 5, none, [])
theorem me_X10_half : xMe kX10_half 4 := ⟨q2795, q213, by decide, by decide, by decide +kernel⟩
theorem q2794 : (Jvm.Cond.instanceMethod ({ cls := "CompiledHouse$Layer", name := "half", desc := "(ZIII)V" } : Jvm.MethodName)) ∈ lw_all := lw_g (lw_at lw_m11 198 rfl) rfl
theorem is_X10_half : Cond.instanceMethod kX10_half.y ∈ lw_all := q2794
theorem se_X10_half : Cond.selects RX10 kX10_half.y kX10_half.y ∈ lw_all := qs98
theorem lk_X10_238 : xLk RX10 238 yX10_half := Or.inl q2792
theorem q2784 : (Jvm.Cond.methodLink "CompiledHouse$Layer" (169 : Nat) ({ cls := "CompiledHouse$Layer", name := "slotOf", desc := "(I)I" } : Jvm.MethodName)) ∈ lw_all := lw_g (lw_at lw_m11 188 rfl) rfl
abbrev cX10_slotOf : ByteArray := prog_17_method_9_code
def yX10_slotOf : MethodName := ⟨RX10, "slotOf", "(I)I"⟩
theorem q2787 : (Jvm.Cond.code ({ cls := "CompiledHouse$Layer", name := "slotOf", desc := "(I)I" } : Jvm.MethodName) prog_17_method_9_code (2 : Nat) (Option.some Jvm.ClassFile.FieldType.int)) ∈ lw_all := lw_g (lw_at lw_m11 191 rfl) rfl
def kX10_slotOf : xK := (yX10_slotOf, cX10_slotOf, 2, some .int, [])
theorem me_X10_slotOf : xMe kX10_slotOf 1 := ⟨q2787, q213, by decide, by decide, by decide +kernel⟩
theorem q2786 : (Jvm.Cond.instanceMethod ({ cls := "CompiledHouse$Layer", name := "slotOf", desc := "(I)I" } : Jvm.MethodName)) ∈ lw_all := lw_g (lw_at lw_m11 190 rfl) rfl
theorem is_X10_slotOf : Cond.instanceMethod kX10_slotOf.y ∈ lw_all := q2786
theorem se_X10_slotOf : Cond.selects RX10 kX10_slotOf.y kX10_slotOf.y ∈ lw_all := qs97
theorem lk_X10_169 : xLk RX10 169 yX10_slotOf := Or.inl q2784
theorem q783 : (Jvm.Cond.fieldLinkNest "CompiledHouse$Layer" (162 : Nat) "CompiledHouse$Painter" "slot" "[I" "CompiledHouse") ∈ lw_tbl := lw_at lw_m3 107 rfl
theorem f_X10_162_10 : xF RX10 162 10 11 := ⟨_, "CompiledHouse$Painter", rfl, by decide, Or.inr ⟨_, q783⟩, Or.inl rfl⟩
theorem q2800 : (Jvm.Cond.methodLink "CompiledHouse$Layer" (176 : Nat) ({ cls := "CompiledHouse$Words", name := "move", desc := "(II)V" } : Jvm.MethodName)) ∈ lw_all := lw_g (lw_at lw_m11 204 rfl) rfl
theorem lk_X10_176 : xLk RX10 176 yX9_move := Or.inl q2800
theorem q1700 : (Jvm.Cond.fieldLinkNest "CompiledHouse$Layer" (242 : Nat) "CompiledHouse$Symbol" "kind" "I" "CompiledHouse") ∈ lw_tbl := lw_at lw_m7 64 rfl
theorem f_X10_242_32 : xF RX10 242 32 1 := ⟨_, "CompiledHouse$Symbol", rfl, by decide, Or.inr ⟨_, q1700⟩, Or.inl rfl⟩
theorem q1706 : (Jvm.Cond.fieldLinkNest "CompiledHouse$Layer" (247 : Nat) "CompiledHouse$Symbol" "value" "I" "CompiledHouse") ∈ lw_tbl := lw_at lw_m7 70 rfl
theorem f_X10_247_32 : xF RX10 247 32 2 := ⟨_, "CompiledHouse$Symbol", rfl, by decide, Or.inr ⟨_, q1706⟩, Or.inl rfl⟩
theorem q2812 : (Jvm.Cond.methodLink "CompiledHouse$Layer" (250 : Nat) ({ cls := "CompiledHouse$Act", name := "isStore", desc := "()Z" } : Jvm.MethodName)) ∈ lw_all := lw_g (lw_at lw_m11 216 rfl) rfl
theorem lk_X10_250 : xLk RX10 250 yX37_isStore := Or.inl q2812
theorem q1931 : (Jvm.Cond.fieldLinkNest "CompiledHouse$Layer" (254 : Nat) "CompiledHouse$Act" "c" "J" "CompiledHouse") ∈ lw_tbl := lw_at lw_m8 55 rfl
theorem f_X10_254_35 : xF RX10 254 35 4 := ⟨_, "CompiledHouse$Act", rfl, by decide, Or.inr ⟨_, q1931⟩, Or.inl rfl⟩
theorem dX10_sum_0 : decode cX10_sum 0 = .ok (.aload_n 0, 1) := by decide +kernel
theorem dX10_sum_1 : decode cX10_sum 1 = .ok (.aload_n 1, 1) := by decide +kernel
theorem dX10_sum_2 : decode cX10_sum 2 = .ok (.getfield 186, 3) := by decide +kernel
theorem dX10_sum_5 : decode cX10_sum 5 = .ok (.invokevirtual 193, 3) := by decide +kernel
theorem dX10_sum_8 : decode cX10_sum 8 = .ok (.istore_n 2, 1) := by decide +kernel
theorem dX10_sum_9 : decode cX10_sum 9 = .ok (.aload_n 0, 1) := by decide +kernel
theorem dX10_sum_10 : decode cX10_sum 10 = .ok (.aload_n 1, 1) := by decide +kernel
theorem dX10_sum_11 : decode cX10_sum 11 = .ok (.getfield 189, 3) := by decide +kernel
theorem dX10_sum_14 : decode cX10_sum 14 = .ok (.bipush 30, 2) := by decide +kernel
theorem dX10_sum_16 : decode cX10_sum 16 = .ok (.invokevirtual 172, 3) := by decide +kernel
theorem dX10_sum_19 : decode cX10_sum 19 = .ok (.istore_n 3, 1) := by decide +kernel
theorem dX10_sum_20 : decode cX10_sum 20 = .ok (.aload_n 1, 1) := by decide +kernel
theorem dX10_sum_21 : decode cX10_sum 21 = .ok (.getfield 229, 3) := by decide +kernel
theorem dX10_sum_24 : decode cX10_sum 24 = .ok (.l2i, 1) := by decide +kernel
theorem dX10_sum_25 : decode cX10_sum 25 = .ok (.istore 4, 2) := by decide +kernel
theorem dX10_sum_27 : decode cX10_sum 27 = .ok (.aload_n 1, 1) := by decide +kernel
theorem dX10_sum_28 : decode cX10_sum 28 = .ok (.getfield 229, 3) := by decide +kernel
theorem dX10_sum_31 : decode cX10_sum 31 = .ok (.invokestatic 165, 3) := by decide +kernel
theorem dX10_sum_34 : decode cX10_sum 34 = .ok (.istore 5, 2) := by decide +kernel
theorem dX10_sum_36 : decode cX10_sum 36 = .ok (.aload_n 1, 1) := by decide +kernel
theorem dX10_sum_37 : decode cX10_sum 37 = .ok (.getfield 229, 3) := by decide +kernel
theorem dX10_sum_40 : decode cX10_sum 40 = .ok (.invokestatic 232, 3) := by decide +kernel
theorem dX10_sum_43 : decode cX10_sum 43 = .ok (.istore 6, 2) := by decide +kernel
theorem dX10_sum_45 : decode cX10_sum 45 = .ok (.aload_n 1, 1) := by decide +kernel
theorem dX10_sum_46 : decode cX10_sum 46 = .ok (.getfield 82, 3) := by decide +kernel
theorem dX10_sum_49 : decode cX10_sum 49 = .ok (.tableswitch 491 0 12 #[67, 154, 179, 203, 203, 67, 67, 67, 288, 288, 288, 376, 376], 67) := by decide +kernel
theorem dX10_sum_116 : decode cX10_sum 116 = .ok (.aload_n 1, 1) := by decide +kernel
theorem dX10_sum_117 : decode cX10_sum 117 = .ok (.getfield 82, 3) := by decide +kernel
theorem dX10_sum_120 : decode cX10_sum 120 = .ok (.ifCond .ne 7, 3) := by decide +kernel
theorem dX10_sum_123 : decode cX10_sum 123 = .ok (.iconst 0, 1) := by decide +kernel
theorem dX10_sum_124 : decode cX10_sum 124 = .ok (.goto 31, 3) := by decide +kernel
theorem dX10_sum_127 : decode cX10_sum 127 = .ok (.aload_n 1, 1) := by decide +kernel
theorem dX10_sum_128 : decode cX10_sum 128 = .ok (.getfield 82, 3) := by decide +kernel
theorem dX10_sum_131 : decode cX10_sum 131 = .ok (.iconst 5, 1) := by decide +kernel
theorem dX10_sum_132 : decode cX10_sum 132 = .ok (.if_icmp .ne 8, 3) := by decide +kernel
theorem dX10_sum_135 : decode cX10_sum 135 = .ok (.bipush 7, 2) := by decide +kernel
theorem dX10_sum_137 : decode cX10_sum 137 = .ok (.goto 18, 3) := by decide +kernel
theorem dX10_sum_140 : decode cX10_sum 140 = .ok (.aload_n 1, 1) := by decide +kernel
theorem dX10_sum_141 : decode cX10_sum 141 = .ok (.getfield 82, 3) := by decide +kernel
theorem dX10_sum_144 : decode cX10_sum 144 = .ok (.bipush 6, 2) := by decide +kernel
theorem dX10_sum_146 : decode cX10_sum 146 = .ok (.if_icmp .ne 8, 3) := by decide +kernel
theorem dX10_sum_149 : decode cX10_sum 149 = .ok (.bipush 6, 2) := by decide +kernel
theorem dX10_sum_151 : decode cX10_sum 151 = .ok (.goto 4, 3) := by decide +kernel
theorem dX10_sum_154 : decode cX10_sum 154 = .ok (.iconst 4, 1) := by decide +kernel
theorem dX10_sum_155 : decode cX10_sum 155 = .ok (.istore 7, 2) := by decide +kernel
theorem dX10_sum_157 : decode cX10_sum 157 = .ok (.iload 6, 2) := by decide +kernel
theorem dX10_sum_159 : decode cX10_sum 159 = .ok (.ifCond .eq 19, 3) := by decide +kernel
theorem dX10_sum_162 : decode cX10_sum 162 = .ok (.aload_n 0, 1) := by decide +kernel
theorem dX10_sum_163 : decode cX10_sum 163 = .ok (.getfield 15, 3) := by decide +kernel
theorem dX10_sum_166 : decode cX10_sum 166 = .ok (.iload 7, 2) := by decide +kernel
theorem dX10_sum_168 : decode cX10_sum 168 = .ok (.iload_n 2, 1) := by decide +kernel
theorem dX10_sum_169 : decode cX10_sum 169 = .ok (.iload_n 3, 1) := by decide +kernel
theorem dX10_sum_170 : decode cX10_sum 170 = .ok (.iload 4, 2) := by decide +kernel
theorem dX10_sum_172 : decode cX10_sum 172 = .ok (.invokevirtual 131, 3) := by decide +kernel
theorem dX10_sum_175 : decode cX10_sum 175 = .ok (.goto 426, 3) := by decide +kernel
theorem dX10_sum_178 : decode cX10_sum 178 = .ok (.aload_n 0, 1) := by decide +kernel
theorem dX10_sum_179 : decode cX10_sum 179 = .ok (.getfield 15, 3) := by decide +kernel
theorem dX10_sum_182 : decode cX10_sum 182 = .ok (.iload 7, 2) := by decide +kernel
theorem dX10_sum_184 : decode cX10_sum 184 = .ok (.iconst 0, 1) := by decide +kernel
theorem dX10_sum_185 : decode cX10_sum 185 = .ok (.iload_n 2, 1) := by decide +kernel
theorem dX10_sum_186 : decode cX10_sum 186 = .ok (.iload_n 3, 1) := by decide +kernel
theorem dX10_sum_187 : decode cX10_sum 187 = .ok (.aload_n 0, 1) := by decide +kernel
theorem dX10_sum_188 : decode cX10_sum 188 = .ok (.aload_n 1, 1) := by decide +kernel
theorem dX10_sum_189 : decode cX10_sum 189 = .ok (.getfield 229, 3) := by decide +kernel
theorem dX10_sum_192 : decode cX10_sum 192 = .ok (.bipush 31, 2) := by decide +kernel
theorem dX10_sum_194 : decode cX10_sum 194 = .ok (.invokevirtual 172, 3) := by decide +kernel
theorem dX10_sum_197 : decode cX10_sum 197 = .ok (.invokevirtual 138, 3) := by decide +kernel
theorem dX10_sum_200 : decode cX10_sum 200 = .ok (.goto 401, 3) := by decide +kernel
theorem dX10_sum_203 : decode cX10_sum 203 = .ok (.aload_n 0, 1) := by decide +kernel
theorem dX10_sum_204 : decode cX10_sum 204 = .ok (.getfield 15, 3) := by decide +kernel
theorem dX10_sum_207 : decode cX10_sum 207 = .ok (.iconst 0, 1) := by decide +kernel
theorem dX10_sum_208 : decode cX10_sum 208 = .ok (.bipush 32, 2) := by decide +kernel
theorem dX10_sum_210 : decode cX10_sum 210 = .ok (.iload_n 2, 1) := by decide +kernel
theorem dX10_sum_211 : decode cX10_sum 211 = .ok (.iload_n 3, 1) := by decide +kernel
theorem dX10_sum_212 : decode cX10_sum 212 = .ok (.aload_n 0, 1) := by decide +kernel
theorem dX10_sum_213 : decode cX10_sum 213 = .ok (.aload_n 1, 1) := by decide +kernel
theorem dX10_sum_214 : decode cX10_sum 214 = .ok (.getfield 229, 3) := by decide +kernel
theorem dX10_sum_217 : decode cX10_sum 217 = .ok (.bipush 31, 2) := by decide +kernel
theorem dX10_sum_219 : decode cX10_sum 219 = .ok (.invokevirtual 172, 3) := by decide +kernel
theorem dX10_sum_222 : decode cX10_sum 222 = .ok (.invokevirtual 138, 3) := by decide +kernel
theorem dX10_sum_225 : decode cX10_sum 225 = .ok (.goto 376, 3) := by decide +kernel
theorem dX10_sum_228 : decode cX10_sum 228 = .ok (.aload_n 0, 1) := by decide +kernel
theorem dX10_sum_229 : decode cX10_sum 229 = .ok (.getfield 15, 3) := by decide +kernel
theorem dX10_sum_232 : decode cX10_sum 232 = .ok (.iconst 0, 1) := by decide +kernel
theorem dX10_sum_233 : decode cX10_sum 233 = .ok (.iconst 1, 1) := by decide +kernel
theorem dX10_sum_234 : decode cX10_sum 234 = .ok (.iload_n 2, 1) := by decide +kernel
theorem dX10_sum_235 : decode cX10_sum 235 = .ok (.iload_n 3, 1) := by decide +kernel
theorem dX10_sum_236 : decode cX10_sum 236 = .ok (.aload_n 0, 1) := by decide +kernel
theorem dX10_sum_237 : decode cX10_sum 237 = .ok (.aload_n 1, 1) := by decide +kernel
theorem dX10_sum_238 : decode cX10_sum 238 = .ok (.getfield 229, 3) := by decide +kernel
theorem dX10_sum_241 : decode cX10_sum 241 = .ok (.bipush 31, 2) := by decide +kernel
theorem dX10_sum_243 : decode cX10_sum 243 = .ok (.invokevirtual 172, 3) := by decide +kernel
theorem dX10_sum_246 : decode cX10_sum 246 = .ok (.invokevirtual 138, 3) := by decide +kernel
theorem dX10_sum_249 : decode cX10_sum 249 = .ok (.goto 352, 3) := by decide +kernel
theorem dX10_sum_252 : decode cX10_sum 252 = .ok (.iload 5, 2) := by decide +kernel
theorem dX10_sum_254 : decode cX10_sum 254 = .ok (.ifCond .eq 46, 3) := by decide +kernel
theorem dX10_sum_257 : decode cX10_sum 257 = .ok (.iload 4, 2) := by decide +kernel
theorem dX10_sum_259 : decode cX10_sum 259 = .ok (.iconst 1, 1) := by decide +kernel
theorem dX10_sum_260 : decode cX10_sum 260 = .ok (.if_icmp .le 40, 3) := by decide +kernel
theorem dX10_sum_263 : decode cX10_sum 263 = .ok (.iload 4, 2) := by decide +kernel
theorem dX10_sum_265 : decode cX10_sum 265 = .ok (.iload 4, 2) := by decide +kernel
theorem dX10_sum_267 : decode cX10_sum 267 = .ok (.iconst 1, 1) := by decide +kernel
theorem dX10_sum_268 : decode cX10_sum 268 = .ok (.isub, 1) := by decide +kernel
theorem dX10_sum_269 : decode cX10_sum 269 = .ok (.iand, 1) := by decide +kernel
theorem dX10_sum_270 : decode cX10_sum 270 = .ok (.ifCond .ne 30, 3) := by decide +kernel
theorem dX10_sum_273 : decode cX10_sum 273 = .ok (.aload_n 0, 1) := by decide +kernel
theorem dX10_sum_274 : decode cX10_sum 274 = .ok (.aload_n 1, 1) := by decide +kernel
theorem dX10_sum_275 : decode cX10_sum 275 = .ok (.getfield 82, 3) := by decide +kernel
theorem dX10_sum_278 : decode cX10_sum 278 = .ok (.iconst 3, 1) := by decide +kernel
theorem dX10_sum_279 : decode cX10_sum 279 = .ok (.if_icmp .ne 7, 3) := by decide +kernel
theorem dX10_sum_282 : decode cX10_sum 282 = .ok (.iconst 1, 1) := by decide +kernel
theorem dX10_sum_283 : decode cX10_sum 283 = .ok (.goto 4, 3) := by decide +kernel
theorem dX10_sum_286 : decode cX10_sum 286 = .ok (.iconst 0, 1) := by decide +kernel
theorem dX10_sum_287 : decode cX10_sum 287 = .ok (.iload_n 2, 1) := by decide +kernel
theorem dX10_sum_288 : decode cX10_sum 288 = .ok (.iload_n 3, 1) := by decide +kernel
theorem dX10_sum_289 : decode cX10_sum 289 = .ok (.iload 4, 2) := by decide +kernel
theorem dX10_sum_291 : decode cX10_sum 291 = .ok (.invokestatic 235, 3) := by decide +kernel
theorem dX10_sum_294 : decode cX10_sum 294 = .ok (.invokevirtual 238, 3) := by decide +kernel
theorem dX10_sum_297 : decode cX10_sum 297 = .ok (.goto 304, 3) := by decide +kernel
theorem dX10_sum_300 : decode cX10_sum 300 = .ok (.aload_n 0, 1) := by decide +kernel
theorem dX10_sum_301 : decode cX10_sum 301 = .ok (.getfield 15, 3) := by decide +kernel
theorem dX10_sum_304 : decode cX10_sum 304 = .ok (.aload_n 1, 1) := by decide +kernel
theorem dX10_sum_305 : decode cX10_sum 305 = .ok (.getfield 82, 3) := by decide +kernel
theorem dX10_sum_308 : decode cX10_sum 308 = .ok (.iconst 3, 1) := by decide +kernel
theorem dX10_sum_309 : decode cX10_sum 309 = .ok (.if_icmp .ne 7, 3) := by decide +kernel
theorem dX10_sum_312 : decode cX10_sum 312 = .ok (.iconst 4, 1) := by decide +kernel
theorem dX10_sum_313 : decode cX10_sum 313 = .ok (.goto 5, 3) := by decide +kernel
theorem dX10_sum_316 : decode cX10_sum 316 = .ok (.bipush 6, 2) := by decide +kernel
theorem dX10_sum_318 : decode cX10_sum 318 = .ok (.iconst 1, 1) := by decide +kernel
theorem dX10_sum_319 : decode cX10_sum 319 = .ok (.iload_n 2, 1) := by decide +kernel
theorem dX10_sum_320 : decode cX10_sum 320 = .ok (.iload_n 3, 1) := by decide +kernel
theorem dX10_sum_321 : decode cX10_sum 321 = .ok (.aload_n 0, 1) := by decide +kernel
theorem dX10_sum_322 : decode cX10_sum 322 = .ok (.aload_n 1, 1) := by decide +kernel
theorem dX10_sum_323 : decode cX10_sum 323 = .ok (.getfield 229, 3) := by decide +kernel
theorem dX10_sum_326 : decode cX10_sum 326 = .ok (.bipush 31, 2) := by decide +kernel
theorem dX10_sum_328 : decode cX10_sum 328 = .ok (.invokevirtual 172, 3) := by decide +kernel
theorem dX10_sum_331 : decode cX10_sum 331 = .ok (.invokevirtual 138, 3) := by decide +kernel
theorem dX10_sum_334 : decode cX10_sum 334 = .ok (.goto 267, 3) := by decide +kernel
theorem dX10_sum_337 : decode cX10_sum 337 = .ok (.aload_n 1, 1) := by decide +kernel
theorem dX10_sum_338 : decode cX10_sum 338 = .ok (.getfield 82, 3) := by decide +kernel
theorem dX10_sum_341 : decode cX10_sum 341 = .ok (.bipush 8, 2) := by decide +kernel
theorem dX10_sum_343 : decode cX10_sum 343 = .ok (.if_icmp .ne 7, 3) := by decide +kernel
theorem dX10_sum_346 : decode cX10_sum 346 = .ok (.iconst 1, 1) := by decide +kernel
theorem dX10_sum_347 : decode cX10_sum 347 = .ok (.goto 4, 3) := by decide +kernel
theorem dX10_sum_350 : decode cX10_sum 350 = .ok (.iconst 5, 1) := by decide +kernel
theorem dX10_sum_351 : decode cX10_sum 351 = .ok (.istore 8, 2) := by decide +kernel
theorem dX10_sum_353 : decode cX10_sum 353 = .ok (.aload_n 1, 1) := by decide +kernel
theorem dX10_sum_354 : decode cX10_sum 354 = .ok (.getfield 82, 3) := by decide +kernel
theorem dX10_sum_357 : decode cX10_sum 357 = .ok (.bipush 9, 2) := by decide +kernel
theorem dX10_sum_359 : decode cX10_sum 359 = .ok (.if_icmp .ne 8, 3) := by decide +kernel
theorem dX10_sum_362 : decode cX10_sum 362 = .ok (.bipush 32, 2) := by decide +kernel
theorem dX10_sum_364 : decode cX10_sum 364 = .ok (.goto 4, 3) := by decide +kernel
theorem dX10_sum_367 : decode cX10_sum 367 = .ok (.iconst 0, 1) := by decide +kernel
theorem dX10_sum_368 : decode cX10_sum 368 = .ok (.istore 9, 2) := by decide +kernel
theorem dX10_sum_370 : decode cX10_sum 370 = .ok (.iload 5, 2) := by decide +kernel
theorem dX10_sum_372 : decode cX10_sum 372 = .ok (.ifCond .eq 27, 3) := by decide +kernel
theorem dX10_sum_375 : decode cX10_sum 375 = .ok (.aload_n 0, 1) := by decide +kernel
theorem dX10_sum_376 : decode cX10_sum 376 = .ok (.getfield 15, 3) := by decide +kernel
theorem dX10_sum_379 : decode cX10_sum 379 = .ok (.iload 8, 2) := by decide +kernel
theorem dX10_sum_381 : decode cX10_sum 381 = .ok (.iload_n 2, 1) := by decide +kernel
theorem dX10_sum_382 : decode cX10_sum 382 = .ok (.iload_n 3, 1) := by decide +kernel
theorem dX10_sum_383 : decode cX10_sum 383 = .ok (.iload 9, 2) := by decide +kernel
theorem dX10_sum_385 : decode cX10_sum 385 = .ok (.iconst 5, 1) := by decide +kernel
theorem dX10_sum_386 : decode cX10_sum 386 = .ok (.ishl, 1) := by decide +kernel
theorem dX10_sum_387 : decode cX10_sum 387 = .ok (.iload 4, 2) := by decide +kernel
theorem dX10_sum_389 : decode cX10_sum 389 = .ok (.bipush 31, 2) := by decide +kernel
theorem dX10_sum_391 : decode cX10_sum 391 = .ok (.iand, 1) := by decide +kernel
theorem dX10_sum_392 : decode cX10_sum 392 = .ok (.ior, 1) := by decide +kernel
theorem dX10_sum_393 : decode cX10_sum 393 = .ok (.invokevirtual 131, 3) := by decide +kernel
theorem dX10_sum_396 : decode cX10_sum 396 = .ok (.goto 205, 3) := by decide +kernel
theorem dX10_sum_399 : decode cX10_sum 399 = .ok (.aload_n 0, 1) := by decide +kernel
theorem dX10_sum_400 : decode cX10_sum 400 = .ok (.getfield 15, 3) := by decide +kernel
theorem dX10_sum_403 : decode cX10_sum 403 = .ok (.iload 8, 2) := by decide +kernel
theorem dX10_sum_405 : decode cX10_sum 405 = .ok (.iload 9, 2) := by decide +kernel
theorem dX10_sum_407 : decode cX10_sum 407 = .ok (.iload_n 2, 1) := by decide +kernel
theorem dX10_sum_408 : decode cX10_sum 408 = .ok (.iload_n 3, 1) := by decide +kernel
theorem dX10_sum_409 : decode cX10_sum 409 = .ok (.aload_n 0, 1) := by decide +kernel
theorem dX10_sum_410 : decode cX10_sum 410 = .ok (.aload_n 1, 1) := by decide +kernel
theorem dX10_sum_411 : decode cX10_sum 411 = .ok (.getfield 229, 3) := by decide +kernel
theorem dX10_sum_414 : decode cX10_sum 414 = .ok (.bipush 31, 2) := by decide +kernel
theorem dX10_sum_416 : decode cX10_sum 416 = .ok (.invokevirtual 172, 3) := by decide +kernel
theorem dX10_sum_419 : decode cX10_sum 419 = .ok (.invokevirtual 138, 3) := by decide +kernel
theorem dX10_sum_422 : decode cX10_sum 422 = .ok (.goto 179, 3) := by decide +kernel
theorem dX10_sum_425 : decode cX10_sum 425 = .ok (.iload_n 3, 1) := by decide +kernel
theorem dX10_sum_426 : decode cX10_sum 426 = .ok (.istore 10, 2) := by decide +kernel
theorem dX10_sum_428 : decode cX10_sum 428 = .ok (.iload 5, 2) := by decide +kernel
theorem dX10_sum_430 : decode cX10_sum 430 = .ok (.ifCond .eq 8, 3) := by decide +kernel
theorem dX10_sum_433 : decode cX10_sum 433 = .ok (.iload 4, 2) := by decide +kernel
theorem dX10_sum_435 : decode cX10_sum 435 = .ok (.ifCond .eq 65, 3) := by decide +kernel
theorem dX10_sum_438 : decode cX10_sum 438 = .ok (.iload_n 2, 1) := by decide +kernel
theorem dX10_sum_439 : decode cX10_sum 439 = .ok (.istore 10, 2) := by decide +kernel
theorem dX10_sum_441 : decode cX10_sum 441 = .ok (.iload 5, 2) := by decide +kernel
theorem dX10_sum_443 : decode cX10_sum 443 = .ok (.ifCond .eq 35, 3) := by decide +kernel
theorem dX10_sum_446 : decode cX10_sum 446 = .ok (.iload 4, 2) := by decide +kernel
theorem dX10_sum_448 : decode cX10_sum 448 = .ok (.sipush (-2048), 3) := by decide +kernel
theorem dX10_sum_451 : decode cX10_sum 451 = .ok (.if_icmp .le 27, 3) := by decide +kernel
theorem dX10_sum_454 : decode cX10_sum 454 = .ok (.iload 4, 2) := by decide +kernel
theorem dX10_sum_456 : decode cX10_sum 456 = .ok (.sipush 2048, 3) := by decide +kernel
theorem dX10_sum_459 : decode cX10_sum 459 = .ok (.if_icmp .gt 19, 3) := by decide +kernel
theorem dX10_sum_462 : decode cX10_sum 462 = .ok (.aload_n 0, 1) := by decide +kernel
theorem dX10_sum_463 : decode cX10_sum 463 = .ok (.getfield 15, 3) := by decide +kernel
theorem dX10_sum_466 : decode cX10_sum 466 = .ok (.iconst 0, 1) := by decide +kernel
theorem dX10_sum_467 : decode cX10_sum 467 = .ok (.iload_n 2, 1) := by decide +kernel
theorem dX10_sum_468 : decode cX10_sum 468 = .ok (.iload_n 3, 1) := by decide +kernel
theorem dX10_sum_469 : decode cX10_sum 469 = .ok (.iload 4, 2) := by decide +kernel
theorem dX10_sum_471 : decode cX10_sum 471 = .ok (.ineg, 1) := by decide +kernel
theorem dX10_sum_472 : decode cX10_sum 472 = .ok (.invokevirtual 131, 3) := by decide +kernel
theorem dX10_sum_475 : decode cX10_sum 475 = .ok (.goto 25, 3) := by decide +kernel
theorem dX10_sum_478 : decode cX10_sum 478 = .ok (.aload_n 0, 1) := by decide +kernel
theorem dX10_sum_479 : decode cX10_sum 479 = .ok (.getfield 15, 3) := by decide +kernel
theorem dX10_sum_482 : decode cX10_sum 482 = .ok (.iconst 0, 1) := by decide +kernel
theorem dX10_sum_483 : decode cX10_sum 483 = .ok (.bipush 32, 2) := by decide +kernel
theorem dX10_sum_485 : decode cX10_sum 485 = .ok (.iload_n 2, 1) := by decide +kernel
theorem dX10_sum_486 : decode cX10_sum 486 = .ok (.iload_n 3, 1) := by decide +kernel
theorem dX10_sum_487 : decode cX10_sum 487 = .ok (.aload_n 0, 1) := by decide +kernel
theorem dX10_sum_488 : decode cX10_sum 488 = .ok (.aload_n 1, 1) := by decide +kernel
theorem dX10_sum_489 : decode cX10_sum 489 = .ok (.getfield 229, 3) := by decide +kernel
theorem dX10_sum_492 : decode cX10_sum 492 = .ok (.bipush 31, 2) := by decide +kernel
theorem dX10_sum_494 : decode cX10_sum 494 = .ok (.invokevirtual 172, 3) := by decide +kernel
theorem dX10_sum_497 : decode cX10_sum 497 = .ok (.invokevirtual 138, 3) := by decide +kernel
theorem dX10_sum_500 : decode cX10_sum 500 = .ok (.aload_n 1, 1) := by decide +kernel
theorem dX10_sum_501 : decode cX10_sum 501 = .ok (.getfield 82, 3) := by decide +kernel
theorem dX10_sum_504 : decode cX10_sum 504 = .ok (.bipush 11, 2) := by decide +kernel
theorem dX10_sum_506 : decode cX10_sum 506 = .ok (.if_icmp .ne 18, 3) := by decide +kernel
theorem dX10_sum_509 : decode cX10_sum 509 = .ok (.aload_n 0, 1) := by decide +kernel
theorem dX10_sum_510 : decode cX10_sum 510 = .ok (.getfield 15, 3) := by decide +kernel
theorem dX10_sum_513 : decode cX10_sum 513 = .ok (.iconst 3, 1) := by decide +kernel
theorem dX10_sum_514 : decode cX10_sum 514 = .ok (.iload_n 2, 1) := by decide +kernel
theorem dX10_sum_515 : decode cX10_sum 515 = .ok (.iload 10, 2) := by decide +kernel
theorem dX10_sum_517 : decode cX10_sum 517 = .ok (.iconst 1, 1) := by decide +kernel
theorem dX10_sum_518 : decode cX10_sum 518 = .ok (.invokevirtual 131, 3) := by decide +kernel
theorem dX10_sum_521 : decode cX10_sum 521 = .ok (.goto 80, 3) := by decide +kernel
theorem dX10_sum_524 : decode cX10_sum 524 = .ok (.aload_n 0, 1) := by decide +kernel
theorem dX10_sum_525 : decode cX10_sum 525 = .ok (.getfield 15, 3) := by decide +kernel
theorem dX10_sum_528 : decode cX10_sum 528 = .ok (.iconst 3, 1) := by decide +kernel
theorem dX10_sum_529 : decode cX10_sum 529 = .ok (.iconst 0, 1) := by decide +kernel
theorem dX10_sum_530 : decode cX10_sum 530 = .ok (.iload_n 2, 1) := by decide +kernel
theorem dX10_sum_531 : decode cX10_sum 531 = .ok (.iconst 0, 1) := by decide +kernel
theorem dX10_sum_532 : decode cX10_sum 532 = .ok (.iload 10, 2) := by decide +kernel
theorem dX10_sum_534 : decode cX10_sum 534 = .ok (.invokevirtual 138, 3) := by decide +kernel
theorem dX10_sum_537 : decode cX10_sum 537 = .ok (.goto 64, 3) := by decide +kernel
theorem dX10_sum_540 : decode cX10_sum 540 = .ok (.iload 6, 2) := by decide +kernel
theorem dX10_sum_542 : decode cX10_sum 542 = .ok (.ifCond .eq 18, 3) := by decide +kernel
theorem dX10_sum_545 : decode cX10_sum 545 = .ok (.aload_n 0, 1) := by decide +kernel
theorem dX10_sum_546 : decode cX10_sum 546 = .ok (.getfield 15, 3) := by decide +kernel
theorem dX10_sum_549 : decode cX10_sum 549 = .ok (.iconst 2, 1) := by decide +kernel
theorem dX10_sum_550 : decode cX10_sum 550 = .ok (.iload_n 2, 1) := by decide +kernel
theorem dX10_sum_551 : decode cX10_sum 551 = .ok (.iload_n 3, 1) := by decide +kernel
theorem dX10_sum_552 : decode cX10_sum 552 = .ok (.iload 4, 2) := by decide +kernel
theorem dX10_sum_554 : decode cX10_sum 554 = .ok (.invokevirtual 131, 3) := by decide +kernel
theorem dX10_sum_557 : decode cX10_sum 557 = .ok (.goto 24, 3) := by decide +kernel
theorem dX10_sum_560 : decode cX10_sum 560 = .ok (.aload_n 0, 1) := by decide +kernel
theorem dX10_sum_561 : decode cX10_sum 561 = .ok (.getfield 15, 3) := by decide +kernel
theorem dX10_sum_564 : decode cX10_sum 564 = .ok (.iconst 2, 1) := by decide +kernel
theorem dX10_sum_565 : decode cX10_sum 565 = .ok (.iconst 0, 1) := by decide +kernel
theorem dX10_sum_566 : decode cX10_sum 566 = .ok (.iload_n 2, 1) := by decide +kernel
theorem dX10_sum_567 : decode cX10_sum 567 = .ok (.iload_n 3, 1) := by decide +kernel
theorem dX10_sum_568 : decode cX10_sum 568 = .ok (.aload_n 0, 1) := by decide +kernel
theorem dX10_sum_569 : decode cX10_sum 569 = .ok (.aload_n 1, 1) := by decide +kernel
theorem dX10_sum_570 : decode cX10_sum 570 = .ok (.getfield 229, 3) := by decide +kernel
theorem dX10_sum_573 : decode cX10_sum 573 = .ok (.bipush 31, 2) := by decide +kernel
theorem dX10_sum_575 : decode cX10_sum 575 = .ok (.invokevirtual 172, 3) := by decide +kernel
theorem dX10_sum_578 : decode cX10_sum 578 = .ok (.invokevirtual 138, 3) := by decide +kernel
theorem dX10_sum_581 : decode cX10_sum 581 = .ok (.aload_n 1, 1) := by decide +kernel
theorem dX10_sum_582 : decode cX10_sum 582 = .ok (.getfield 82, 3) := by decide +kernel
theorem dX10_sum_585 : decode cX10_sum 585 = .ok (.bipush 16, 2) := by decide +kernel
theorem dX10_sum_587 : decode cX10_sum 587 = .ok (.if_icmp .ne 14, 3) := by decide +kernel
theorem dX10_sum_590 : decode cX10_sum 590 = .ok (.aload_n 0, 1) := by decide +kernel
theorem dX10_sum_591 : decode cX10_sum 591 = .ok (.getfield 15, 3) := by decide +kernel
theorem dX10_sum_594 : decode cX10_sum 594 = .ok (.iconst 4, 1) := by decide +kernel
theorem dX10_sum_595 : decode cX10_sum 595 = .ok (.iload_n 2, 1) := by decide +kernel
theorem dX10_sum_596 : decode cX10_sum 596 = .ok (.iload_n 2, 1) := by decide +kernel
theorem dX10_sum_597 : decode cX10_sum 597 = .ok (.iconst 1, 1) := by decide +kernel
theorem dX10_sum_598 : decode cX10_sum 598 = .ok (.invokevirtual 131, 3) := by decide +kernel
theorem dX10_sum_601 : decode cX10_sum 601 = .ok (.aload_n 0, 1) := by decide +kernel
theorem dX10_sum_602 : decode cX10_sum 602 = .ok (.aload_n 1, 1) := by decide +kernel
theorem dX10_sum_603 : decode cX10_sum 603 = .ok (.getfield 186, 3) := by decide +kernel
theorem dX10_sum_606 : decode cX10_sum 606 = .ok (.iload_n 2, 1) := by decide +kernel
theorem dX10_sum_607 : decode cX10_sum 607 = .ok (.invokevirtual 200, 3) := by decide +kernel
theorem dX10_sum_610 : decode cX10_sum 610 = .ok (.return_, 1) := by decide +kernel
theorem dX10_into_0 : decode cX10_into 0 = .ok (.aload_n 0, 1) := by decide +kernel
theorem dX10_into_1 : decode cX10_into 1 = .ok (.getfield 24, 3) := by decide +kernel
theorem dX10_into_4 : decode cX10_into 4 = .ok (.getfield 88, 3) := by decide +kernel
theorem dX10_into_7 : decode cX10_into 7 = .ok (.iload_n 1, 1) := by decide +kernel
theorem dX10_into_8 : decode cX10_into 8 = .ok (.iaload, 1) := by decide +kernel
theorem dX10_into_9 : decode cX10_into 9 = .ok (.ifCond .lt 19, 3) := by decide +kernel
theorem dX10_into_12 : decode cX10_into 12 = .ok (.getstatic 146, 3) := by decide +kernel
theorem dX10_into_15 : decode cX10_into 15 = .ok (.aload_n 0, 1) := by decide +kernel
theorem dX10_into_16 : decode cX10_into 16 = .ok (.getfield 24, 3) := by decide +kernel
theorem dX10_into_19 : decode cX10_into 19 = .ok (.getfield 88, 3) := by decide +kernel
theorem dX10_into_22 : decode cX10_into 22 = .ok (.iload_n 1, 1) := by decide +kernel
theorem dX10_into_23 : decode cX10_into 23 = .ok (.iaload, 1) := by decide +kernel
theorem dX10_into_24 : decode cX10_into 24 = .ok (.iaload, 1) := by decide +kernel
theorem dX10_into_25 : decode cX10_into 25 = .ok (.goto 5, 3) := by decide +kernel
theorem dX10_into_28 : decode cX10_into 28 = .ok (.bipush 30, 2) := by decide +kernel
theorem dX10_into_30 : decode cX10_into 30 = .ok (.ireturn, 1) := by decide +kernel
theorem dX10_from_0 : decode cX10_from 0 = .ok (.lload_n 1, 1) := by decide +kernel
theorem dX10_from_1 : decode cX10_from 1 = .ok (.invokestatic 165, 3) := by decide +kernel
theorem dX10_from_4 : decode cX10_from 4 = .ok (.ifCond .eq 22, 3) := by decide +kernel
theorem dX10_from_7 : decode cX10_from 7 = .ok (.lload_n 1, 1) := by decide +kernel
theorem dX10_from_8 : decode cX10_from 8 = .ok (.l2i, 1) := by decide +kernel
theorem dX10_from_9 : decode cX10_from 9 = .ok (.ifCond .ne 5, 3) := by decide +kernel
theorem dX10_from_12 : decode cX10_from 12 = .ok (.iconst 0, 1) := by decide +kernel
theorem dX10_from_13 : decode cX10_from 13 = .ok (.ireturn, 1) := by decide +kernel
theorem dX10_from_14 : decode cX10_from 14 = .ok (.aload_n 0, 1) := by decide +kernel
theorem dX10_from_15 : decode cX10_from 15 = .ok (.getfield 15, 3) := by decide +kernel
theorem dX10_from_18 : decode cX10_from 18 = .ok (.iload_n 3, 1) := by decide +kernel
theorem dX10_from_19 : decode cX10_from 19 = .ok (.lload_n 1, 1) := by decide +kernel
theorem dX10_from_20 : decode cX10_from 20 = .ok (.l2i, 1) := by decide +kernel
theorem dX10_from_21 : decode cX10_from 21 = .ok (.invokevirtual 135, 3) := by decide +kernel
theorem dX10_from_24 : decode cX10_from 24 = .ok (.iload_n 3, 1) := by decide +kernel
theorem dX10_from_25 : decode cX10_from 25 = .ok (.ireturn, 1) := by decide +kernel
theorem dX10_from_26 : decode cX10_from 26 = .ok (.lload_n 1, 1) := by decide +kernel
theorem dX10_from_27 : decode cX10_from 27 = .ok (.l2i, 1) := by decide +kernel
theorem dX10_from_28 : decode cX10_from 28 = .ok (.istore 4, 2) := by decide +kernel
theorem dX10_from_30 : decode cX10_from 30 = .ok (.aload_n 0, 1) := by decide +kernel
theorem dX10_from_31 : decode cX10_from 31 = .ok (.getfield 24, 3) := by decide +kernel
theorem dX10_from_34 : decode cX10_from 34 = .ok (.getfield 88, 3) := by decide +kernel
theorem dX10_from_37 : decode cX10_from 37 = .ok (.iload 4, 2) := by decide +kernel
theorem dX10_from_39 : decode cX10_from 39 = .ok (.iaload, 1) := by decide +kernel
theorem dX10_from_40 : decode cX10_from 40 = .ok (.ifCond .lt 18, 3) := by decide +kernel
theorem dX10_from_43 : decode cX10_from 43 = .ok (.getstatic 146, 3) := by decide +kernel
theorem dX10_from_46 : decode cX10_from 46 = .ok (.aload_n 0, 1) := by decide +kernel
theorem dX10_from_47 : decode cX10_from 47 = .ok (.getfield 24, 3) := by decide +kernel
theorem dX10_from_50 : decode cX10_from 50 = .ok (.getfield 88, 3) := by decide +kernel
theorem dX10_from_53 : decode cX10_from 53 = .ok (.iload 4, 2) := by decide +kernel
theorem dX10_from_55 : decode cX10_from 55 = .ok (.iaload, 1) := by decide +kernel
theorem dX10_from_56 : decode cX10_from 56 = .ok (.iaload, 1) := by decide +kernel
theorem dX10_from_57 : decode cX10_from 57 = .ok (.ireturn, 1) := by decide +kernel
theorem dX10_from_58 : decode cX10_from 58 = .ok (.aload_n 0, 1) := by decide +kernel
theorem dX10_from_59 : decode cX10_from 59 = .ok (.iload_n 3, 1) := by decide +kernel
theorem dX10_from_60 : decode cX10_from 60 = .ok (.aload_n 0, 1) := by decide +kernel
theorem dX10_from_61 : decode cX10_from 61 = .ok (.iload 4, 2) := by decide +kernel
theorem dX10_from_63 : decode cX10_from 63 = .ok (.invokevirtual 169, 3) := by decide +kernel
theorem dX10_from_66 : decode cX10_from 66 = .ok (.invokevirtual 153, 3) := by decide +kernel
theorem dX10_from_69 : decode cX10_from 69 = .ok (.iload_n 3, 1) := by decide +kernel
theorem dX10_from_70 : decode cX10_from 70 = .ok (.ireturn, 1) := by decide +kernel
theorem dX10_slotOf_0 : decode cX10_slotOf 0 = .ok (.aload_n 0, 1) := by decide +kernel
theorem dX10_slotOf_1 : decode cX10_slotOf 1 = .ok (.getfield 48, 3) := by decide +kernel
theorem dX10_slotOf_4 : decode cX10_slotOf 4 = .ok (.iconst 4, 1) := by decide +kernel
theorem dX10_slotOf_5 : decode cX10_slotOf 5 = .ok (.aload_n 0, 1) := by decide +kernel
theorem dX10_slotOf_6 : decode cX10_slotOf 6 = .ok (.getfield 24, 3) := by decide +kernel
theorem dX10_slotOf_9 : decode cX10_slotOf 9 = .ok (.getfield 162, 3) := by decide +kernel
theorem dX10_slotOf_12 : decode cX10_slotOf 12 = .ok (.iload_n 1, 1) := by decide +kernel
theorem dX10_slotOf_13 : decode cX10_slotOf 13 = .ok (.iaload, 1) := by decide +kernel
theorem dX10_slotOf_14 : decode cX10_slotOf 14 = .ok (.imul, 1) := by decide +kernel
theorem dX10_slotOf_15 : decode cX10_slotOf 15 = .ok (.iadd, 1) := by decide +kernel
theorem dX10_slotOf_16 : decode cX10_slotOf 16 = .ok (.ireturn, 1) := by decide +kernel
theorem dX10_half_0 : decode cX10_half 0 = .ok (.aload_n 0, 1) := by decide +kernel
theorem dX10_half_1 : decode cX10_half 1 = .ok (.getfield 15, 3) := by decide +kernel
theorem dX10_half_4 : decode cX10_half 4 = .ok (.iconst 5, 1) := by decide +kernel
theorem dX10_half_5 : decode cX10_half 5 = .ok (.bipush 17, 2) := by decide +kernel
theorem dX10_half_7 : decode cX10_half 7 = .ok (.iload_n 3, 1) := by decide +kernel
theorem dX10_half_8 : decode cX10_half 8 = .ok (.sipush 1055, 3) := by decide +kernel
theorem dX10_half_11 : decode cX10_half 11 = .ok (.invokevirtual 131, 3) := by decide +kernel
theorem dX10_half_14 : decode cX10_half 14 = .ok (.aload_n 0, 1) := by decide +kernel
theorem dX10_half_15 : decode cX10_half 15 = .ok (.getfield 15, 3) := by decide +kernel
theorem dX10_half_18 : decode cX10_half 18 = .ok (.iconst 5, 1) := by decide +kernel
theorem dX10_half_19 : decode cX10_half 19 = .ok (.bipush 17, 2) := by decide +kernel
theorem dX10_half_21 : decode cX10_half 21 = .ok (.bipush 17, 2) := by decide +kernel
theorem dX10_half_23 : decode cX10_half 23 = .ok (.bipush 32, 2) := by decide +kernel
theorem dX10_half_25 : decode cX10_half 25 = .ok (.iload 4, 2) := by decide +kernel
theorem dX10_half_27 : decode cX10_half 27 = .ok (.isub, 1) := by decide +kernel
theorem dX10_half_28 : decode cX10_half 28 = .ok (.invokevirtual 131, 3) := by decide +kernel
theorem dX10_half_31 : decode cX10_half 31 = .ok (.aload_n 0, 1) := by decide +kernel
theorem dX10_half_32 : decode cX10_half 32 = .ok (.getfield 15, 3) := by decide +kernel
theorem dX10_half_35 : decode cX10_half 35 = .ok (.iconst 0, 1) := by decide +kernel
theorem dX10_half_36 : decode cX10_half 36 = .ok (.iconst 0, 1) := by decide +kernel
theorem dX10_half_37 : decode cX10_half 37 = .ok (.bipush 17, 2) := by decide +kernel
theorem dX10_half_39 : decode cX10_half 39 = .ok (.bipush 17, 2) := by decide +kernel
theorem dX10_half_41 : decode cX10_half 41 = .ok (.iload_n 3, 1) := by decide +kernel
theorem dX10_half_42 : decode cX10_half 42 = .ok (.invokevirtual 138, 3) := by decide +kernel
theorem dX10_half_45 : decode cX10_half 45 = .ok (.iload_n 1, 1) := by decide +kernel
theorem dX10_half_46 : decode cX10_half 46 = .ok (.ifCond .eq 21, 3) := by decide +kernel
theorem dX10_half_49 : decode cX10_half 49 = .ok (.aload_n 0, 1) := by decide +kernel
theorem dX10_half_50 : decode cX10_half 50 = .ok (.getfield 15, 3) := by decide +kernel
theorem dX10_half_53 : decode cX10_half 53 = .ok (.iconst 5, 1) := by decide +kernel
theorem dX10_half_54 : decode cX10_half 54 = .ok (.iload_n 2, 1) := by decide +kernel
theorem dX10_half_55 : decode cX10_half 55 = .ok (.bipush 17, 2) := by decide +kernel
theorem dX10_half_57 : decode cX10_half 57 = .ok (.sipush 1024, 3) := by decide +kernel
theorem dX10_half_60 : decode cX10_half 60 = .ok (.iload 4, 2) := by decide +kernel
theorem dX10_half_62 : decode cX10_half 62 = .ok (.ior, 1) := by decide +kernel
theorem dX10_half_63 : decode cX10_half 63 = .ok (.invokevirtual 131, 3) := by decide +kernel
theorem dX10_half_66 : decode cX10_half 66 = .ok (.return_, 1) := by decide +kernel
theorem dX10_half_67 : decode cX10_half 67 = .ok (.aload_n 0, 1) := by decide +kernel
theorem dX10_half_68 : decode cX10_half 68 = .ok (.getfield 15, 3) := by decide +kernel
theorem dX10_half_71 : decode cX10_half 71 = .ok (.iconst 5, 1) := by decide +kernel
theorem dX10_half_72 : decode cX10_half 72 = .ok (.bipush 17, 2) := by decide +kernel
theorem dX10_half_74 : decode cX10_half 74 = .ok (.bipush 17, 2) := by decide +kernel
theorem dX10_half_76 : decode cX10_half 76 = .ok (.iload 4, 2) := by decide +kernel
theorem dX10_half_78 : decode cX10_half 78 = .ok (.invokevirtual 131, 3) := by decide +kernel
theorem dX10_half_81 : decode cX10_half 81 = .ok (.aload_n 0, 1) := by decide +kernel
theorem dX10_half_82 : decode cX10_half 82 = .ok (.getfield 15, 3) := by decide +kernel
theorem dX10_half_85 : decode cX10_half 85 = .ok (.iconst 1, 1) := by decide +kernel
theorem dX10_half_86 : decode cX10_half 86 = .ok (.bipush 17, 2) := by decide +kernel
theorem dX10_half_88 : decode cX10_half 88 = .ok (.bipush 17, 2) := by decide +kernel
theorem dX10_half_90 : decode cX10_half 90 = .ok (.iload 4, 2) := by decide +kernel
theorem dX10_half_92 : decode cX10_half 92 = .ok (.invokevirtual 131, 3) := by decide +kernel
theorem dX10_half_95 : decode cX10_half 95 = .ok (.aload_n 0, 1) := by decide +kernel
theorem dX10_half_96 : decode cX10_half 96 = .ok (.getfield 15, 3) := by decide +kernel
theorem dX10_half_99 : decode cX10_half 99 = .ok (.iconst 0, 1) := by decide +kernel
theorem dX10_half_100 : decode cX10_half 100 = .ok (.bipush 32, 2) := by decide +kernel
theorem dX10_half_102 : decode cX10_half 102 = .ok (.iload_n 2, 1) := by decide +kernel
theorem dX10_half_103 : decode cX10_half 103 = .ok (.iload_n 3, 1) := by decide +kernel
theorem dX10_half_104 : decode cX10_half 104 = .ok (.bipush 17, 2) := by decide +kernel
theorem dX10_half_106 : decode cX10_half 106 = .ok (.invokevirtual 138, 3) := by decide +kernel
theorem dX10_half_109 : decode cX10_half 109 = .ok (.return_, 1) := by decide +kernel
theorem dX10_made_0 : decode cX10_made 0 = .ok (.aload_n 0, 1) := by decide +kernel
theorem dX10_made_1 : decode cX10_made 1 = .ok (.getfield 24, 3) := by decide +kernel
theorem dX10_made_4 : decode cX10_made 4 = .ok (.getfield 88, 3) := by decide +kernel
theorem dX10_made_7 : decode cX10_made 7 = .ok (.iload_n 1, 1) := by decide +kernel
theorem dX10_made_8 : decode cX10_made 8 = .ok (.iaload, 1) := by decide +kernel
theorem dX10_made_9 : decode cX10_made 9 = .ok (.ifCond .lt 27, 3) := by decide +kernel
theorem dX10_made_12 : decode cX10_made 12 = .ok (.aload_n 0, 1) := by decide +kernel
theorem dX10_made_13 : decode cX10_made 13 = .ok (.getfield 15, 3) := by decide +kernel
theorem dX10_made_16 : decode cX10_made 16 = .ok (.getstatic 146, 3) := by decide +kernel
theorem dX10_made_19 : decode cX10_made 19 = .ok (.aload_n 0, 1) := by decide +kernel
theorem dX10_made_20 : decode cX10_made 20 = .ok (.getfield 24, 3) := by decide +kernel
theorem dX10_made_23 : decode cX10_made 23 = .ok (.getfield 88, 3) := by decide +kernel
theorem dX10_made_26 : decode cX10_made 26 = .ok (.iload_n 1, 1) := by decide +kernel
theorem dX10_made_27 : decode cX10_made 27 = .ok (.iaload, 1) := by decide +kernel
theorem dX10_made_28 : decode cX10_made 28 = .ok (.iaload, 1) := by decide +kernel
theorem dX10_made_29 : decode cX10_made 29 = .ok (.iload_n 2, 1) := by decide +kernel
theorem dX10_made_30 : decode cX10_made 30 = .ok (.invokevirtual 176, 3) := by decide +kernel
theorem dX10_made_33 : decode cX10_made 33 = .ok (.goto 26, 3) := by decide +kernel
theorem dX10_made_36 : decode cX10_made 36 = .ok (.aload_n 0, 1) := by decide +kernel
theorem dX10_made_37 : decode cX10_made 37 = .ok (.iload_n 2, 1) := by decide +kernel
theorem dX10_made_38 : decode cX10_made 38 = .ok (.aload_n 0, 1) := by decide +kernel
theorem dX10_made_39 : decode cX10_made 39 = .ok (.iload_n 1, 1) := by decide +kernel
theorem dX10_made_40 : decode cX10_made 40 = .ok (.invokevirtual 169, 3) := by decide +kernel
theorem dX10_made_43 : decode cX10_made 43 = .ok (.iload_n 2, 1) := by decide +kernel
theorem dX10_made_44 : decode cX10_made 44 = .ok (.bipush 30, 2) := by decide +kernel
theorem dX10_made_46 : decode cX10_made 46 = .ok (.if_icmp .ne 8, 3) := by decide +kernel
theorem dX10_made_49 : decode cX10_made 49 = .ok (.bipush 17, 2) := by decide +kernel
theorem dX10_made_51 : decode cX10_made 51 = .ok (.goto 5, 3) := by decide +kernel
theorem dX10_made_54 : decode cX10_made 54 = .ok (.bipush 30, 2) := by decide +kernel
theorem dX10_made_56 : decode cX10_made 56 = .ok (.invokevirtual 149, 3) := by decide +kernel
theorem dX10_made_59 : decode cX10_made 59 = .ok (.return_, 1) := by decide +kernel
theorem dX10_bring_0 : decode cX10_bring 0 = .ok (.aload_n 0, 1) := by decide +kernel
theorem dX10_bring_1 : decode cX10_bring 1 = .ok (.getfield 15, 3) := by decide +kernel
theorem dX10_bring_4 : decode cX10_bring 4 = .ok (.iload_n 3, 1) := by decide +kernel
theorem dX10_bring_5 : decode cX10_bring 5 = .ok (.aload_n 0, 1) := by decide +kernel
theorem dX10_bring_6 : decode cX10_bring 6 = .ok (.lload_n 1, 1) := by decide +kernel
theorem dX10_bring_7 : decode cX10_bring 7 = .ok (.iload_n 3, 1) := by decide +kernel
theorem dX10_bring_8 : decode cX10_bring 8 = .ok (.invokevirtual 172, 3) := by decide +kernel
theorem dX10_bring_11 : decode cX10_bring 11 = .ok (.invokevirtual 176, 3) := by decide +kernel
theorem dX10_bring_14 : decode cX10_bring 14 = .ok (.return_, 1) := by decide +kernel
theorem dX10_memory_0 : decode cX10_memory 0 = .ok (.aload_n 1, 1) := by decide +kernel
theorem dX10_memory_1 : decode cX10_memory 1 = .ok (.getfield 218, 3) := by decide +kernel
theorem dX10_memory_4 : decode cX10_memory 4 = .ok (.astore_n 2, 1) := by decide +kernel
theorem dX10_memory_5 : decode cX10_memory 5 = .ok (.aload_n 2, 1) := by decide +kernel
theorem dX10_memory_6 : decode cX10_memory 6 = .ok (.getfield 242, 3) := by decide +kernel
theorem dX10_memory_9 : decode cX10_memory 9 = .ok (.iconst 5, 1) := by decide +kernel
theorem dX10_memory_10 : decode cX10_memory 10 = .ok (.if_icmp .ne 7, 3) := by decide +kernel
theorem dX10_memory_13 : decode cX10_memory 13 = .ok (.iconst 0, 1) := by decide +kernel
theorem dX10_memory_14 : decode cX10_memory 14 = .ok (.goto 9, 3) := by decide +kernel
theorem dX10_memory_17 : decode cX10_memory 17 = .ok (.iconst 4, 1) := by decide +kernel
theorem dX10_memory_18 : decode cX10_memory 18 = .ok (.aload_n 2, 1) := by decide +kernel
theorem dX10_memory_19 : decode cX10_memory 19 = .ok (.getfield 247, 3) := by decide +kernel
theorem dX10_memory_22 : decode cX10_memory 22 = .ok (.imul, 1) := by decide +kernel
theorem dX10_memory_23 : decode cX10_memory 23 = .ok (.istore_n 3, 1) := by decide +kernel
theorem dX10_memory_24 : decode cX10_memory 24 = .ok (.aload_n 1, 1) := by decide +kernel
theorem dX10_memory_25 : decode cX10_memory 25 = .ok (.getfield 229, 3) := by decide +kernel
theorem dX10_memory_28 : decode cX10_memory 28 = .ok (.invokestatic 165, 3) := by decide +kernel
theorem dX10_memory_31 : decode cX10_memory 31 = .ok (.ifCond .eq 50, 3) := by decide +kernel
theorem dX10_memory_34 : decode cX10_memory 34 = .ok (.iload_n 3, 1) := by decide +kernel
theorem dX10_memory_35 : decode cX10_memory 35 = .ok (.aload_n 1, 1) := by decide +kernel
theorem dX10_memory_36 : decode cX10_memory 36 = .ok (.getfield 229, 3) := by decide +kernel
theorem dX10_memory_39 : decode cX10_memory 39 = .ok (.l2i, 1) := by decide +kernel
theorem dX10_memory_40 : decode cX10_memory 40 = .ok (.iadd, 1) := by decide +kernel
theorem dX10_memory_41 : decode cX10_memory 41 = .ok (.istore_n 3, 1) := by decide +kernel
theorem dX10_memory_42 : decode cX10_memory 42 = .ok (.aload_n 2, 1) := by decide +kernel
theorem dX10_memory_43 : decode cX10_memory 43 = .ok (.getfield 242, 3) := by decide +kernel
theorem dX10_memory_46 : decode cX10_memory 46 = .ok (.iconst 5, 1) := by decide +kernel
theorem dX10_memory_47 : decode cX10_memory 47 = .ok (.if_icmp .ne 16, 3) := by decide +kernel
theorem dX10_memory_50 : decode cX10_memory 50 = .ok (.aload_n 0, 1) := by decide +kernel
theorem dX10_memory_51 : decode cX10_memory 51 = .ok (.aload_n 1, 1) := by decide +kernel
theorem dX10_memory_52 : decode cX10_memory 52 = .ok (.getfield 189, 3) := by decide +kernel
theorem dX10_memory_55 : decode cX10_memory 55 = .ok (.bipush 30, 2) := by decide +kernel
theorem dX10_memory_57 : decode cX10_memory 57 = .ok (.invokevirtual 172, 3) := by decide +kernel
theorem dX10_memory_60 : decode cX10_memory 60 = .ok (.goto 16, 3) := by decide +kernel
theorem dX10_memory_63 : decode cX10_memory 63 = .ok (.aload_n 2, 1) := by decide +kernel
theorem dX10_memory_64 : decode cX10_memory 64 = .ok (.getfield 242, 3) := by decide +kernel
theorem dX10_memory_67 : decode cX10_memory 67 = .ok (.iconst 4, 1) := by decide +kernel
theorem dX10_memory_68 : decode cX10_memory 68 = .ok (.if_icmp .ne 7, 3) := by decide +kernel
theorem dX10_memory_71 : decode cX10_memory 71 = .ok (.iconst 2, 1) := by decide +kernel
theorem dX10_memory_72 : decode cX10_memory 72 = .ok (.goto 4, 3) := by decide +kernel
theorem dX10_memory_75 : decode cX10_memory 75 = .ok (.iconst 0, 1) := by decide +kernel
theorem dX10_memory_76 : decode cX10_memory 76 = .ok (.istore 4, 2) := by decide +kernel
theorem dX10_memory_78 : decode cX10_memory 78 = .ok (.goto 62, 3) := by decide +kernel
theorem dX10_memory_81 : decode cX10_memory 81 = .ok (.aload_n 0, 1) := by decide +kernel
theorem dX10_memory_82 : decode cX10_memory 82 = .ok (.aload_n 1, 1) := by decide +kernel
theorem dX10_memory_83 : decode cX10_memory 83 = .ok (.getfield 229, 3) := by decide +kernel
theorem dX10_memory_86 : decode cX10_memory 86 = .ok (.bipush 30, 2) := by decide +kernel
theorem dX10_memory_88 : decode cX10_memory 88 = .ok (.invokevirtual 172, 3) := by decide +kernel
theorem dX10_memory_91 : decode cX10_memory 91 = .ok (.istore 4, 2) := by decide +kernel
theorem dX10_memory_93 : decode cX10_memory 93 = .ok (.aload_n 2, 1) := by decide +kernel
theorem dX10_memory_94 : decode cX10_memory 94 = .ok (.getfield 242, 3) := by decide +kernel
theorem dX10_memory_97 : decode cX10_memory 97 = .ok (.iconst 2, 1) := by decide +kernel
theorem dX10_memory_98 : decode cX10_memory 98 = .ok (.if_icmp .eq 42, 3) := by decide +kernel
theorem dX10_memory_101 : decode cX10_memory 101 = .ok (.aload_n 0, 1) := by decide +kernel
theorem dX10_memory_102 : decode cX10_memory 102 = .ok (.getfield 15, 3) := by decide +kernel
theorem dX10_memory_105 : decode cX10_memory 105 = .ok (.iconst 0, 1) := by decide +kernel
theorem dX10_memory_106 : decode cX10_memory 106 = .ok (.iconst 0, 1) := by decide +kernel
theorem dX10_memory_107 : decode cX10_memory 107 = .ok (.bipush 17, 2) := by decide +kernel
theorem dX10_memory_109 : decode cX10_memory 109 = .ok (.iload 4, 2) := by decide +kernel
theorem dX10_memory_111 : decode cX10_memory 111 = .ok (.aload_n 2, 1) := by decide +kernel
theorem dX10_memory_112 : decode cX10_memory 112 = .ok (.getfield 242, 3) := by decide +kernel
theorem dX10_memory_115 : decode cX10_memory 115 = .ok (.iconst 4, 1) := by decide +kernel
theorem dX10_memory_116 : decode cX10_memory 116 = .ok (.if_icmp .ne 7, 3) := by decide +kernel
theorem dX10_memory_119 : decode cX10_memory 119 = .ok (.iconst 2, 1) := by decide +kernel
theorem dX10_memory_120 : decode cX10_memory 120 = .ok (.goto 13, 3) := by decide +kernel
theorem dX10_memory_123 : decode cX10_memory 123 = .ok (.aload_n 0, 1) := by decide +kernel
theorem dX10_memory_124 : decode cX10_memory 124 = .ok (.aload_n 1, 1) := by decide +kernel
theorem dX10_memory_125 : decode cX10_memory 125 = .ok (.getfield 189, 3) := by decide +kernel
theorem dX10_memory_128 : decode cX10_memory 128 = .ok (.bipush 31, 2) := by decide +kernel
theorem dX10_memory_130 : decode cX10_memory 130 = .ok (.invokevirtual 172, 3) := by decide +kernel
theorem dX10_memory_133 : decode cX10_memory 133 = .ok (.invokevirtual 138, 3) := by decide +kernel
theorem dX10_memory_136 : decode cX10_memory 136 = .ok (.bipush 17, 2) := by decide +kernel
theorem dX10_memory_138 : decode cX10_memory 138 = .ok (.istore 4, 2) := by decide +kernel
theorem dX10_memory_140 : decode cX10_memory 140 = .ok (.iload_n 3, 1) := by decide +kernel
theorem dX10_memory_141 : decode cX10_memory 141 = .ok (.sipush (-2048), 3) := by decide +kernel
theorem dX10_memory_144 : decode cX10_memory 144 = .ok (.if_icmp .lt 10, 3) := by decide +kernel
theorem dX10_memory_147 : decode cX10_memory 147 = .ok (.iload_n 3, 1) := by decide +kernel
theorem dX10_memory_148 : decode cX10_memory 148 = .ok (.sipush 2048, 3) := by decide +kernel
theorem dX10_memory_151 : decode cX10_memory 151 = .ok (.if_icmp .lt 39, 3) := by decide +kernel
theorem dX10_memory_154 : decode cX10_memory 154 = .ok (.aload_n 0, 1) := by decide +kernel
theorem dX10_memory_155 : decode cX10_memory 155 = .ok (.getfield 15, 3) := by decide +kernel
theorem dX10_memory_158 : decode cX10_memory 158 = .ok (.bipush 17, 2) := by decide +kernel
theorem dX10_memory_160 : decode cX10_memory 160 = .ok (.iload_n 3, 1) := by decide +kernel
theorem dX10_memory_161 : decode cX10_memory 161 = .ok (.invokevirtual 135, 3) := by decide +kernel
theorem dX10_memory_164 : decode cX10_memory 164 = .ok (.iload 4, 2) := by decide +kernel
theorem dX10_memory_166 : decode cX10_memory 166 = .ok (.ifCond .eq 18, 3) := by decide +kernel
theorem dX10_memory_169 : decode cX10_memory 169 = .ok (.aload_n 0, 1) := by decide +kernel
theorem dX10_memory_170 : decode cX10_memory 170 = .ok (.getfield 15, 3) := by decide +kernel
theorem dX10_memory_173 : decode cX10_memory 173 = .ok (.iconst 0, 1) := by decide +kernel
theorem dX10_memory_174 : decode cX10_memory 174 = .ok (.iconst 0, 1) := by decide +kernel
theorem dX10_memory_175 : decode cX10_memory 175 = .ok (.bipush 17, 2) := by decide +kernel
theorem dX10_memory_177 : decode cX10_memory 177 = .ok (.bipush 17, 2) := by decide +kernel
theorem dX10_memory_179 : decode cX10_memory 179 = .ok (.iload 4, 2) := by decide +kernel
theorem dX10_memory_181 : decode cX10_memory 181 = .ok (.invokevirtual 138, 3) := by decide +kernel
theorem dX10_memory_184 : decode cX10_memory 184 = .ok (.bipush 17, 2) := by decide +kernel
theorem dX10_memory_186 : decode cX10_memory 186 = .ok (.istore 4, 2) := by decide +kernel
theorem dX10_memory_188 : decode cX10_memory 188 = .ok (.iconst 0, 1) := by decide +kernel
theorem dX10_memory_189 : decode cX10_memory 189 = .ok (.istore_n 3, 1) := by decide +kernel
theorem dX10_memory_190 : decode cX10_memory 190 = .ok (.aload_n 1, 1) := by decide +kernel
theorem dX10_memory_191 : decode cX10_memory 191 = .ok (.getfield 82, 3) := by decide +kernel
theorem dX10_memory_194 : decode cX10_memory 194 = .ok (.bipush 21, 2) := by decide +kernel
theorem dX10_memory_196 : decode cX10_memory 196 = .ok (.if_icmp .eq 12, 3) := by decide +kernel
theorem dX10_memory_199 : decode cX10_memory 199 = .ok (.aload_n 1, 1) := by decide +kernel
theorem dX10_memory_200 : decode cX10_memory 200 = .ok (.getfield 82, 3) := by decide +kernel
theorem dX10_memory_203 : decode cX10_memory 203 = .ok (.bipush 23, 2) := by decide +kernel
theorem dX10_memory_205 : decode cX10_memory 205 = .ok (.if_icmp .ne 7, 3) := by decide +kernel
theorem dX10_memory_208 : decode cX10_memory 208 = .ok (.iconst 1, 1) := by decide +kernel
theorem dX10_memory_209 : decode cX10_memory 209 = .ok (.goto 4, 3) := by decide +kernel
theorem dX10_memory_212 : decode cX10_memory 212 = .ok (.iconst 0, 1) := by decide +kernel
theorem dX10_memory_213 : decode cX10_memory 213 = .ok (.istore 5, 2) := by decide +kernel
theorem dX10_memory_215 : decode cX10_memory 215 = .ok (.aload_n 1, 1) := by decide +kernel
theorem dX10_memory_216 : decode cX10_memory 216 = .ok (.invokevirtual 250, 3) := by decide +kernel
theorem dX10_memory_219 : decode cX10_memory 219 = .ok (.ifCond .eq 34, 3) := by decide +kernel
theorem dX10_memory_222 : decode cX10_memory 222 = .ok (.aload_n 0, 1) := by decide +kernel
theorem dX10_memory_223 : decode cX10_memory 223 = .ok (.getfield 15, 3) := by decide +kernel
theorem dX10_memory_226 : decode cX10_memory 226 = .ok (.iload 5, 2) := by decide +kernel
theorem dX10_memory_228 : decode cX10_memory 228 = .ok (.ifCond .eq 7, 3) := by decide +kernel
theorem dX10_memory_231 : decode cX10_memory 231 = .ok (.iconst 2, 1) := by decide +kernel
theorem dX10_memory_232 : decode cX10_memory 232 = .ok (.goto 4, 3) := by decide +kernel
theorem dX10_memory_235 : decode cX10_memory 235 = .ok (.iconst 0, 1) := by decide +kernel
theorem dX10_memory_236 : decode cX10_memory 236 = .ok (.aload_n 0, 1) := by decide +kernel
theorem dX10_memory_237 : decode cX10_memory 237 = .ok (.aload_n 1, 1) := by decide +kernel
theorem dX10_memory_238 : decode cX10_memory 238 = .ok (.getfield 254, 3) := by decide +kernel
theorem dX10_memory_241 : decode cX10_memory 241 = .ok (.bipush 31, 2) := by decide +kernel
theorem dX10_memory_243 : decode cX10_memory 243 = .ok (.invokevirtual 172, 3) := by decide +kernel
theorem dX10_memory_246 : decode cX10_memory 246 = .ok (.iload 4, 2) := by decide +kernel
theorem dX10_memory_248 : decode cX10_memory 248 = .ok (.iload_n 3, 1) := by decide +kernel
theorem dX10_memory_249 : decode cX10_memory 249 = .ok (.invokevirtual 156, 3) := by decide +kernel
theorem dX10_memory_252 : decode cX10_memory 252 = .ok (.return_, 1) := by decide +kernel
theorem dX10_memory_253 : decode cX10_memory 253 = .ok (.aload_n 0, 1) := by decide +kernel
theorem dX10_memory_254 : decode cX10_memory 254 = .ok (.aload_n 1, 1) := by decide +kernel
theorem dX10_memory_255 : decode cX10_memory 255 = .ok (.getfield 186, 3) := by decide +kernel
theorem dX10_memory_258 : decode cX10_memory 258 = .ok (.invokevirtual 193, 3) := by decide +kernel
theorem dX10_memory_261 : decode cX10_memory 261 = .ok (.istore 6, 2) := by decide +kernel
theorem dX10_memory_263 : decode cX10_memory 263 = .ok (.aload_n 0, 1) := by decide +kernel
theorem dX10_memory_264 : decode cX10_memory 264 = .ok (.getfield 15, 3) := by decide +kernel
theorem dX10_memory_267 : decode cX10_memory 267 = .ok (.iload 5, 2) := by decide +kernel
theorem dX10_memory_269 : decode cX10_memory 269 = .ok (.ifCond .eq 7, 3) := by decide +kernel
theorem dX10_memory_272 : decode cX10_memory 272 = .ok (.iconst 2, 1) := by decide +kernel
theorem dX10_memory_273 : decode cX10_memory 273 = .ok (.goto 4, 3) := by decide +kernel
theorem dX10_memory_276 : decode cX10_memory 276 = .ok (.iconst 4, 1) := by decide +kernel
theorem dX10_memory_277 : decode cX10_memory 277 = .ok (.iload 6, 2) := by decide +kernel
theorem dX10_memory_279 : decode cX10_memory 279 = .ok (.iload 4, 2) := by decide +kernel
theorem dX10_memory_281 : decode cX10_memory 281 = .ok (.iload_n 3, 1) := by decide +kernel
theorem dX10_memory_282 : decode cX10_memory 282 = .ok (.invokevirtual 159, 3) := by decide +kernel
theorem dX10_memory_285 : decode cX10_memory 285 = .ok (.aload_n 0, 1) := by decide +kernel
theorem dX10_memory_286 : decode cX10_memory 286 = .ok (.aload_n 1, 1) := by decide +kernel
theorem dX10_memory_287 : decode cX10_memory 287 = .ok (.getfield 186, 3) := by decide +kernel
theorem dX10_memory_290 : decode cX10_memory 290 = .ok (.iload 6, 2) := by decide +kernel
theorem dX10_memory_292 : decode cX10_memory 292 = .ok (.invokevirtual 200, 3) := by decide +kernel
theorem dX10_memory_295 : decode cX10_memory 295 = .ok (.return_, 1) := by decide +kernel
