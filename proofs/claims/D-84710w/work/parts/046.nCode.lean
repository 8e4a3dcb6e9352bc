/-! names: X37 X36 X35 X34 X14 X24 X0_roomFor X0_roomFor_2 X0_roomFor_3 X0_cut (tools/names.py) -/
set_option maxRecDepth 100000
abbrev cX37_init : ByteArray := prog_2_method_1_code
def yX37_init : MethodName := ⟨RX37, "<init>", "(IIJJ)V"⟩
theorem q1908 : (Jvm.Cond.code ({ cls := "CompiledHouse$Act", name := "<init>", desc := "(IIJJ)V" } : Jvm.MethodName) prog_2_method_1_code (7 : Nat) (Option.none : Option Jvm.ClassFile.FieldType)) ∈ lw_all := lw_g (lw_at lw_m8 32 rfl) rfl
def kX37_init : xK := (yX37_init, cX37_init, 7, none, [])
theorem me_X37_init : xMe kX37_init 4 := ⟨q1908, q252, by decide, by decide, by decide +kernel⟩
theorem q1907 : (Jvm.Cond.instanceMethod ({ cls := "CompiledHouse$Act", name := "<init>", desc := "(IIJJ)V" } : Jvm.MethodName)) ∈ lw_all := lw_g (lw_at lw_m8 31 rfl) rfl
theorem is_X37_init : Cond.instanceMethod kX37_init.y ∈ lw_all := q1907
theorem q1909 : (Jvm.Cond.methodLink "CompiledHouse$Act" (3 : Nat) ({ cls := "java/lang/Object", name := "<init>", desc := "()V" } : Jvm.MethodName)) ∈ lw_all := lw_g (lw_at lw_m8 33 rfl) rfl
theorem lk_X37_3 : xLk RX37 3 yJ18_init := Or.inl q1909
theorem q1910 : (Jvm.Cond.fieldLink "CompiledHouse$Act" (9 : Nat) "CompiledHouse$Act" "act" "I") ∈ lw_all := lw_g (lw_at lw_m8 34 rfl) rfl
theorem f_X37_9_35 : xF RX37 9 35 0 := ⟨_, "CompiledHouse$Act", rfl, by decide, Or.inl q1910, Or.inl rfl⟩
theorem q1915 : (Jvm.Cond.fieldLink "CompiledHouse$Act" (15 : Nat) "CompiledHouse$Act" "d" "I") ∈ lw_all := lw_g (lw_at lw_m8 39 rfl) rfl
theorem f_X37_15_35 : xF RX37 15 35 1 := ⟨_, "CompiledHouse$Act", rfl, by decide, Or.inl q1915, Or.inl rfl⟩
theorem q1921 : (Jvm.Cond.fieldLink "CompiledHouse$Act" (18 : Nat) "CompiledHouse$Act" "a" "J") ∈ lw_all := lw_g (lw_at lw_m8 45 rfl) rfl
theorem f_X37_18_35 : xF RX37 18 35 2 := ⟨_, "CompiledHouse$Act", rfl, by decide, Or.inl q1921, Or.inl rfl⟩
theorem q1926 : (Jvm.Cond.fieldLink "CompiledHouse$Act" (22 : Nat) "CompiledHouse$Act" "b" "J") ∈ lw_all := lw_g (lw_at lw_m8 50 rfl) rfl
theorem f_X37_22_35 : xF RX37 22 35 3 := ⟨_, "CompiledHouse$Act", rfl, by decide, Or.inl q1926, Or.inl rfl⟩
abbrev cX37_isPure : ByteArray := prog_2_method_2_code
def yX37_isPure : MethodName := ⟨RX37, "isPure", "()Z"⟩
theorem q2655 : (Jvm.Cond.code ({ cls := "CompiledHouse$Act", name := "isPure", desc := "()Z" } : Jvm.MethodName) prog_2_method_2_code (1 : Nat) (Option.some Jvm.ClassFile.FieldType.boolean)) ∈ lw_all := lw_g (lw_at lw_m11 59 rfl) rfl
def kX37_isPure : xK := (yX37_isPure, cX37_isPure, 1, some .boolean, [])
theorem me_X37_isPure : xMe kX37_isPure 0 := ⟨q2655, q252, by decide, by decide, by decide +kernel⟩
theorem q2653 : (Jvm.Cond.instanceMethod ({ cls := "CompiledHouse$Act", name := "isPure", desc := "()Z" } : Jvm.MethodName)) ∈ lw_all := lw_g (lw_at lw_m11 57 rfl) rfl
theorem is_X37_isPure : Cond.instanceMethod kX37_isPure.y ∈ lw_all := q2653
theorem se_X37_isPure : Cond.selects RX37 kX37_isPure.y kX37_isPure.y ∈ lw_all := q2654
abbrev cX36_init : ByteArray := prog_5_method_1_code
def yX36_init : MethodName := ⟨RX36, "<init>", "()V"⟩
theorem q1788 : (Jvm.Cond.code ({ cls := "CompiledHouse$Block", name := "<init>", desc := "()V" } : Jvm.MethodName) prog_5_method_1_code (1 : Nat) (Option.none : Option Jvm.ClassFile.FieldType)) ∈ lw_all := lw_g (lw_at lw_m7 152 rfl) rfl
def kX36_init : xK := (yX36_init, cX36_init, 1, none, [])
theorem me_X36_init : xMe kX36_init 0 := ⟨q1788, q248, by decide, by decide, by decide +kernel⟩
theorem q1787 : (Jvm.Cond.instanceMethod ({ cls := "CompiledHouse$Block", name := "<init>", desc := "()V" } : Jvm.MethodName)) ∈ lw_all := lw_g (lw_at lw_m7 151 rfl) rfl
theorem is_X36_init : Cond.instanceMethod kX36_init.y ∈ lw_all := q1787
theorem q1789 : (Jvm.Cond.methodLink "CompiledHouse$Block" (3 : Nat) ({ cls := "java/lang/Object", name := "<init>", desc := "()V" } : Jvm.MethodName)) ∈ lw_all := lw_g (lw_at lw_m7 153 rfl) rfl
theorem lk_X36_3 : xLk RX36 3 yJ18_init := Or.inl q1789
theorem q1790 : (Jvm.Cond.classLink "CompiledHouse$Block" (9 : Nat) "java/util/ArrayList") ∈ lw_all := lw_g (lw_at lw_m7 154 rfl) rfl
theorem q1791 : (Jvm.Cond.methodLink "CompiledHouse$Block" (11 : Nat) ({ cls := "java/util/ArrayList", name := "<init>", desc := "(I)V" } : Jvm.MethodName)) ∈ lw_all := lw_g (lw_at lw_m7 155 rfl) rfl
theorem lk_X36_11 : xLk RX36 11 yJ5_init_2 := Or.inl q1791
theorem q1792 : (Jvm.Cond.fieldLink "CompiledHouse$Block" (14 : Nat) "CompiledHouse$Block" "acts" "Ljava/util/ArrayList;") ∈ lw_all := lw_g (lw_at lw_m7 156 rfl) rfl
theorem f_X36_14_34 : xF RX36 14 34 0 := ⟨_, "CompiledHouse$Block", rfl, by decide, Or.inl q1792, Or.inl rfl⟩
abbrev cX36_ends : ByteArray := prog_5_method_2_code
def yX36_ends : MethodName := ⟨RX36, "ends", "(IJLCompiledHouse$Block;)V"⟩
theorem q2084 : (Jvm.Cond.code ({ cls := "CompiledHouse$Block", name := "ends", desc := "(IJLCompiledHouse$Block;)V" } : Jvm.MethodName) prog_5_method_2_code (5 : Nat) (Option.none : Option Jvm.ClassFile.FieldType)) ∈ lw_all := lw_g (lw_at lw_m8 208 rfl) rfl
def kX36_ends : xK := (yX36_ends, cX36_ends, 5, none, [])
theorem me_X36_ends : xMe kX36_ends 3 := ⟨q2084, q248, by decide, by decide, by decide +kernel⟩
theorem q2082 : (Jvm.Cond.instanceMethod ({ cls := "CompiledHouse$Block", name := "ends", desc := "(IJLCompiledHouse$Block;)V" } : Jvm.MethodName)) ∈ lw_all := lw_g (lw_at lw_m8 206 rfl) rfl
theorem is_X36_ends : Cond.instanceMethod kX36_ends.y ∈ lw_all := q2082
theorem se_X36_ends : Cond.selects RX36 kX36_ends.y kX36_ends.y ∈ lw_all := q2083
theorem q1798 : (Jvm.Cond.fieldLink "CompiledHouse$Block" (20 : Nat) "CompiledHouse$Block" "end" "I") ∈ lw_all := lw_g (lw_at lw_m7 162 rfl) rfl
theorem f_X36_20_34 : xF RX36 20 34 1 := ⟨_, "CompiledHouse$Block", rfl, by decide, Or.inl q1798, Or.inl rfl⟩
theorem q1806 : (Jvm.Cond.fieldLink "CompiledHouse$Block" (24 : Nat) "CompiledHouse$Block" "a" "J") ∈ lw_all := lw_g (lw_at lw_m7 170 rfl) rfl
theorem f_X36_24_34 : xF RX36 24 34 3 := ⟨_, "CompiledHouse$Block", rfl, by decide, Or.inl q1806, Or.inl rfl⟩
theorem q1814 : (Jvm.Cond.fieldLink "CompiledHouse$Block" (28 : Nat) "CompiledHouse$Block" "yes" "LCompiledHouse$Block;") ∈ lw_all := lw_g (lw_at lw_m7 178 rfl) rfl
theorem f_X36_28_34 : xF RX36 28 34 5 := ⟨_, "CompiledHouse$Block", rfl, by decide, Or.inl q1814, Or.inl rfl⟩
theorem q1818 : (Jvm.Cond.fieldLink "CompiledHouse$Block" (32 : Nat) "CompiledHouse$Block" "no" "LCompiledHouse$Block;") ∈ lw_all := lw_g (lw_at lw_m7 182 rfl) rfl
theorem f_X36_32_34 : xF RX36 32 34 6 := ⟨_, "CompiledHouse$Block", rfl, by decide, Or.inl q1818, Or.inl rfl⟩
abbrev cX36_settle : ByteArray := prog_5_method_3_code
def yX36_settle : MethodName := ⟨RX36, "settle", "(Z)V"⟩
theorem q2466 : (Jvm.Cond.code ({ cls := "CompiledHouse$Block", name := "settle", desc := "(Z)V" } : Jvm.MethodName) prog_5_method_3_code (2 : Nat) (Option.none : Option Jvm.ClassFile.FieldType)) ∈ lw_all := lw_g (lw_at lw_m10 110 rfl) rfl
def kX36_settle : xK := (yX36_settle, cX36_settle, 2, none, [])
theorem me_X36_settle : xMe kX36_settle 1 := ⟨q2466, q248, by decide, by decide, by decide +kernel⟩
theorem q2464 : (Jvm.Cond.instanceMethod ({ cls := "CompiledHouse$Block", name := "settle", desc := "(Z)V" } : Jvm.MethodName)) ∈ lw_all := lw_g (lw_at lw_m10 108 rfl) rfl
theorem is_X36_settle : Cond.instanceMethod kX36_settle.y ∈ lw_all := q2464
theorem se_X36_settle : Cond.selects RX36 kX36_settle.y kX36_settle.y ∈ lw_all := q2465
theorem q2467 : (Jvm.Cond.methodLink "CompiledHouse$Block" (35 : Nat) ({ cls := "CompiledHouse$Block", name := "ends", desc := "(IJLCompiledHouse$Block;)V" } : Jvm.MethodName)) ∈ lw_all := lw_g (lw_at lw_m10 111 rfl) rfl
theorem lk_X36_35 : xLk RX36 35 yX36_ends := Or.inl q2467
abbrev cX35_init : ByteArray := prog_11_method_1_code
def yX35_init : MethodName := ⟨RX35, "<init>", "(LCompiledHouse$Told;)V"⟩
theorem q1746 : (Jvm.Cond.code ({ cls := "CompiledHouse$Code", name := "<init>", desc := "(LCompiledHouse$Told;)V" } : Jvm.MethodName) prog_11_method_1_code (2 : Nat) (Option.none : Option Jvm.ClassFile.FieldType)) ∈ lw_all := lw_g (lw_at lw_m7 110 rfl) rfl
def kX35_init : xK := (yX35_init, cX35_init, 2, none, [])
theorem me_X35_init : xMe kX35_init 1 := ⟨q1746, q247, by decide, by decide, by decide +kernel⟩
theorem q1745 : (Jvm.Cond.instanceMethod ({ cls := "CompiledHouse$Code", name := "<init>", desc := "(LCompiledHouse$Told;)V" } : Jvm.MethodName)) ∈ lw_all := lw_g (lw_at lw_m7 109 rfl) rfl
theorem is_X35_init : Cond.instanceMethod kX35_init.y ∈ lw_all := q1745
theorem q1747 : (Jvm.Cond.methodLink "CompiledHouse$Code" (1 : Nat) ({ cls := "java/lang/Object", name := "<init>", desc := "()V" } : Jvm.MethodName)) ∈ lw_all := lw_g (lw_at lw_m7 111 rfl) rfl
theorem lk_X35_1 : xLk RX35 1 yJ18_init := Or.inl q1747
theorem q1748 : (Jvm.Cond.classLink "CompiledHouse$Code" (7 : Nat) "java/util/ArrayList") ∈ lw_all := lw_g (lw_at lw_m7 112 rfl) rfl
theorem q1749 : (Jvm.Cond.methodLink "CompiledHouse$Code" (9 : Nat) ({ cls := "java/util/ArrayList", name := "<init>", desc := "()V" } : Jvm.MethodName)) ∈ lw_all := lw_g (lw_at lw_m7 113 rfl) rfl
theorem lk_X35_9 : xLk RX35 9 yJ5_init := Or.inl q1749
theorem q1753 : (Jvm.Cond.fieldLink "CompiledHouse$Code" (10 : Nat) "CompiledHouse$Code" "blocks" "Ljava/util/ArrayList;") ∈ lw_all := lw_g (lw_at lw_m7 117 rfl) rfl
theorem f_X35_10_33 : xF RX35 10 33 1 := ⟨_, "CompiledHouse$Code", rfl, by decide, Or.inl q1753, Or.inl rfl⟩
theorem q1750 : (Jvm.Cond.methodLink "CompiledHouse$Code" (16 : Nat) ({ cls := "java/util/ArrayList", name := "<init>", desc := "(I)V" } : Jvm.MethodName)) ∈ lw_all := lw_g (lw_at lw_m7 114 rfl) rfl
theorem lk_X35_16 : xLk RX35 16 yJ5_init_2 := Or.inl q1750
theorem q1766 : (Jvm.Cond.fieldLink "CompiledHouse$Code" (19 : Nat) "CompiledHouse$Code" "variables" "Ljava/util/ArrayList;") ∈ lw_all := lw_g (lw_at lw_m7 130 rfl) rfl
theorem f_X35_19_33 : xF RX35 19 33 4 := ⟨_, "CompiledHouse$Code", rfl, by decide, Or.inl q1766, Or.inl rfl⟩
theorem q1751 : (Jvm.Cond.fieldLink "CompiledHouse$Code" (22 : Nat) "CompiledHouse$Code" "told" "LCompiledHouse$Told;") ∈ lw_all := lw_g (lw_at lw_m7 115 rfl) rfl
theorem f_X35_22_33 : xF RX35 22 33 0 := ⟨_, "CompiledHouse$Code", rfl, by decide, Or.inl q1751, Or.inl rfl⟩
abbrev cX34_init : ByteArray := prog_32_method_1_code
def yX34_init : MethodName := ⟨RX34, "<init>", "(III)V"⟩
theorem q1693 : (Jvm.Cond.code ({ cls := "CompiledHouse$Symbol", name := "<init>", desc := "(III)V" } : Jvm.MethodName) prog_32_method_1_code (4 : Nat) (Option.none : Option Jvm.ClassFile.FieldType)) ∈ lw_all := lw_g (lw_at lw_m7 57 rfl) rfl
def kX34_init : xK := (yX34_init, cX34_init, 4, none, [])
theorem me_X34_init : xMe kX34_init 3 := ⟨q1693, q246, by decide, by decide, by decide +kernel⟩
theorem q1692 : (Jvm.Cond.instanceMethod ({ cls := "CompiledHouse$Symbol", name := "<init>", desc := "(III)V" } : Jvm.MethodName)) ∈ lw_all := lw_g (lw_at lw_m7 56 rfl) rfl
theorem is_X34_init : Cond.instanceMethod kX34_init.y ∈ lw_all := q1692
theorem q1694 : (Jvm.Cond.methodLink "CompiledHouse$Symbol" (3 : Nat) ({ cls := "java/lang/Object", name := "<init>", desc := "()V" } : Jvm.MethodName)) ∈ lw_all := lw_g (lw_at lw_m7 58 rfl) rfl
theorem lk_X34_3 : xLk RX34 3 yJ18_init := Or.inl q1694
theorem q1695 : (Jvm.Cond.fieldLink "CompiledHouse$Symbol" (9 : Nat) "CompiledHouse$Symbol" "name" "I") ∈ lw_all := lw_g (lw_at lw_m7 59 rfl) rfl
theorem f_X34_9_32 : xF RX34 9 32 0 := ⟨_, "CompiledHouse$Symbol", rfl, by decide, Or.inl q1695, Or.inl rfl⟩
theorem q1697 : (Jvm.Cond.fieldLink "CompiledHouse$Symbol" (15 : Nat) "CompiledHouse$Symbol" "kind" "I") ∈ lw_all := lw_g (lw_at lw_m7 61 rfl) rfl
theorem f_X34_15_32 : xF RX34 15 32 1 := ⟨_, "CompiledHouse$Symbol", rfl, by decide, Or.inl q1697, Or.inl rfl⟩
theorem q1703 : (Jvm.Cond.fieldLink "CompiledHouse$Symbol" (18 : Nat) "CompiledHouse$Symbol" "value" "I") ∈ lw_all := lw_g (lw_at lw_m7 67 rfl) rfl
theorem f_X34_18_32 : xF RX34 18 32 2 := ⟨_, "CompiledHouse$Symbol", rfl, by decide, Or.inl q1703, Or.inl rfl⟩
abbrev cX34_isArray : ByteArray := prog_32_method_2_code
def yX34_isArray : MethodName := ⟨RX34, "isArray", "()Z"⟩
theorem q2001 : (Jvm.Cond.code ({ cls := "CompiledHouse$Symbol", name := "isArray", desc := "()Z" } : Jvm.MethodName) prog_32_method_2_code (1 : Nat) (Option.some Jvm.ClassFile.FieldType.boolean)) ∈ lw_all := lw_g (lw_at lw_m8 125 rfl) rfl
def kX34_isArray : xK := (yX34_isArray, cX34_isArray, 1, some .boolean, [])
theorem me_X34_isArray : xMe kX34_isArray 0 := ⟨q2001, q246, by decide, by decide, by decide +kernel⟩
theorem q1999 : (Jvm.Cond.instanceMethod ({ cls := "CompiledHouse$Symbol", name := "isArray", desc := "()Z" } : Jvm.MethodName)) ∈ lw_all := lw_g (lw_at lw_m8 123 rfl) rfl
theorem is_X34_isArray : Cond.instanceMethod kX34_isArray.y ∈ lw_all := q1999
theorem se_X34_isArray : Cond.selects RX34 kX34_isArray.y kX34_isArray.y ∈ lw_all := q2000
abbrev cX14_init : ByteArray := prog_36_method_1_code
def yX14_init : MethodName := ⟨RX14, "<init>", "(III)V"⟩
theorem q1104 : (Jvm.Cond.code ({ cls := "CompiledHouse$Told", name := "<init>", desc := "(III)V" } : Jvm.MethodName) prog_36_method_1_code (4 : Nat) (Option.none : Option Jvm.ClassFile.FieldType)) ∈ lw_all := lw_g (lw_at lw_m4 188 rfl) rfl
def kX14_init : xK := (yX14_init, cX14_init, 4, none, [])
theorem me_X14_init : xMe kX14_init 3 := ⟨q1104, q221, by decide, by decide, by decide +kernel⟩
theorem q1103 : (Jvm.Cond.instanceMethod ({ cls := "CompiledHouse$Told", name := "<init>", desc := "(III)V" } : Jvm.MethodName)) ∈ lw_all := lw_g (lw_at lw_m4 187 rfl) rfl
theorem is_X14_init : Cond.instanceMethod kX14_init.y ∈ lw_all := q1103
theorem q1105 : (Jvm.Cond.methodLink "CompiledHouse$Told" (1 : Nat) ({ cls := "java/lang/Object", name := "<init>", desc := "()V" } : Jvm.MethodName)) ∈ lw_all := lw_g (lw_at lw_m4 189 rfl) rfl
theorem lk_X14_1 : xLk RX14 1 yJ18_init := Or.inl q1105
theorem q1106 : (Jvm.Cond.fieldLink "CompiledHouse$Told" (7 : Nat) "CompiledHouse$Told" "kind" "I") ∈ lw_all := lw_g (lw_at lw_m4 190 rfl) rfl
theorem f_X14_7_13 : xF RX14 7 13 0 := ⟨_, "CompiledHouse$Told", rfl, by decide, Or.inl q1106, Or.inl rfl⟩
theorem q1112 : (Jvm.Cond.fieldLink "CompiledHouse$Told" (13 : Nat) "CompiledHouse$Told" "place" "I") ∈ lw_all := lw_g (lw_at lw_m4 196 rfl) rfl
theorem f_X14_13_13 : xF RX14 13 13 2 := ⟨_, "CompiledHouse$Told", rfl, by decide, Or.inl q1112, Or.inl rfl⟩
theorem q1109 : (Jvm.Cond.fieldLink "CompiledHouse$Told" (16 : Nat) "CompiledHouse$Told" "name" "I") ∈ lw_all := lw_g (lw_at lw_m4 193 rfl) rfl
theorem f_X14_16_13 : xF RX14 16 13 1 := ⟨_, "CompiledHouse$Told", rfl, by decide, Or.inl q1109, Or.inl rfl⟩
abbrev cX14_words : ByteArray := prog_36_method_2_code
def yX14_words : MethodName := ⟨RX14, "words", "()I"⟩
theorem q2030 : (Jvm.Cond.code ({ cls := "CompiledHouse$Told", name := "words", desc := "()I" } : Jvm.MethodName) prog_36_method_2_code (3 : Nat) (Option.some Jvm.ClassFile.FieldType.int)) ∈ lw_all := lw_g (lw_at lw_m8 154 rfl) rfl
def kX14_words : xK := (yX14_words, cX14_words, 3, some .int, [])
theorem me_X14_words : xMe kX14_words 0 := ⟨q2030, q221, by decide, by decide, by decide +kernel⟩
theorem q2028 : (Jvm.Cond.instanceMethod ({ cls := "CompiledHouse$Told", name := "words", desc := "()I" } : Jvm.MethodName)) ∈ lw_all := lw_g (lw_at lw_m8 152 rfl) rfl
theorem is_X14_words : Cond.instanceMethod kX14_words.y ∈ lw_all := q2028
theorem se_X14_words : Cond.selects RX14 kX14_words.y kX14_words.y ∈ lw_all := q2029
theorem q1127 : (Jvm.Cond.fieldLink "CompiledHouse$Told" (19 : Nat) "CompiledHouse$Told" "formals" "Ljava/util/ArrayList;") ∈ lw_all := lw_g (lw_at lw_m4 211 rfl) rfl
theorem f_X14_19_13 : xF RX14 19 13 8 := ⟨_, "CompiledHouse$Told", rfl, by decide, Or.inl q1127, Or.inl rfl⟩
theorem q2031 : (Jvm.Cond.methodLink "CompiledHouse$Told" (23 : Nat) ({ cls := "java/util/ArrayList", name := "size", desc := "()I" } : Jvm.MethodName)) ∈ lw_all := lw_g (lw_at lw_m8 155 rfl) rfl
theorem lk_X14_23 : xLk RX14 23 yJ5_size := Or.inl q2031
theorem q2032 : (Jvm.Cond.methodLink "CompiledHouse$Told" (29 : Nat) ({ cls := "java/util/ArrayList", name := "get", desc := "(I)Ljava/lang/Object;" } : Jvm.MethodName)) ∈ lw_all := lw_g (lw_at lw_m8 156 rfl) rfl
theorem lk_X14_29 : xLk RX14 29 yJ5_get := Or.inl q2032
theorem q2033 : (Jvm.Cond.classLink "CompiledHouse$Told" (33 : Nat) "CompiledHouse$Formal") ∈ lw_all := lw_g (lw_at lw_m8 157 rfl) rfl
theorem q1489 : (Jvm.Cond.fieldLinkNest "CompiledHouse$Told" (35 : Nat) "CompiledHouse$Formal" "isArray" "Z" "CompiledHouse") ∈ lw_tbl := lw_at lw_m6 93 rfl
theorem f_X14_35_22 : xF RX14 35 22 3 := ⟨_, "CompiledHouse$Formal", rfl, by decide, Or.inr ⟨_, q1489⟩, Or.inl rfl⟩
abbrev cX24_init : ByteArray := prog_14_method_1_code
def yX24_init : MethodName := ⟨RX24, "<init>", "(IIIZZ)V"⟩
theorem q1480 : (Jvm.Cond.code ({ cls := "CompiledHouse$Formal", name := "<init>", desc := "(IIIZZ)V" } : Jvm.MethodName) prog_14_method_1_code (6 : Nat) (Option.none : Option Jvm.ClassFile.FieldType)) ∈ lw_all := lw_g (lw_at lw_m6 84 rfl) rfl
def kX24_init : xK := (yX24_init, cX24_init, 6, none, [])
theorem me_X24_init : xMe kX24_init 5 := ⟨q1480, q236, by decide, by decide, by decide +kernel⟩
theorem q1479 : (Jvm.Cond.instanceMethod ({ cls := "CompiledHouse$Formal", name := "<init>", desc := "(IIIZZ)V" } : Jvm.MethodName)) ∈ lw_all := lw_g (lw_at lw_m6 83 rfl) rfl
theorem is_X24_init : Cond.instanceMethod kX24_init.y ∈ lw_all := q1479
theorem q1481 : (Jvm.Cond.methodLink "CompiledHouse$Formal" (1 : Nat) ({ cls := "java/lang/Object", name := "<init>", desc := "()V" } : Jvm.MethodName)) ∈ lw_all := lw_g (lw_at lw_m6 85 rfl) rfl
theorem lk_X24_1 : xLk RX24 1 yJ18_init := Or.inl q1481
theorem q1486 : (Jvm.Cond.fieldLink "CompiledHouse$Formal" (7 : Nat) "CompiledHouse$Formal" "first" "I") ∈ lw_all := lw_g (lw_at lw_m6 90 rfl) rfl
theorem f_X24_7_22 : xF RX24 7 22 2 := ⟨_, "CompiledHouse$Formal", rfl, by decide, Or.inl q1486, Or.inl rfl⟩
theorem q1484 : (Jvm.Cond.fieldLink "CompiledHouse$Formal" (13 : Nat) "CompiledHouse$Formal" "place" "I") ∈ lw_all := lw_g (lw_at lw_m6 88 rfl) rfl
theorem f_X24_13_22 : xF RX24 13 22 1 := ⟨_, "CompiledHouse$Formal", rfl, by decide, Or.inl q1484, Or.inl rfl⟩
theorem q1482 : (Jvm.Cond.fieldLink "CompiledHouse$Formal" (16 : Nat) "CompiledHouse$Formal" "name" "I") ∈ lw_all := lw_g (lw_at lw_m6 86 rfl) rfl
theorem f_X24_16_22 : xF RX24 16 22 0 := ⟨_, "CompiledHouse$Formal", rfl, by decide, Or.inl q1482, Or.inl rfl⟩
theorem q1488 : (Jvm.Cond.fieldLink "CompiledHouse$Formal" (19 : Nat) "CompiledHouse$Formal" "isArray" "Z") ∈ lw_all := lw_g (lw_at lw_m6 92 rfl) rfl
theorem f_X24_19_22 : xF RX24 19 22 3 := ⟨_, "CompiledHouse$Formal", rfl, by decide, Or.inl q1488, Or.inl rfl⟩
theorem q1492 : (Jvm.Cond.fieldLink "CompiledHouse$Formal" (23 : Nat) "CompiledHouse$Formal" "isByte" "Z") ∈ lw_all := lw_g (lw_at lw_m6 96 rfl) rfl
theorem f_X24_23_22 : xF RX24 23 22 4 := ⟨_, "CompiledHouse$Formal", rfl, by decide, Or.inl q1492, Or.inl rfl⟩
theorem q2440 : (Jvm.Cond.methodLink "CompiledHouse" (3 : Nat) ({ cls := "java/lang/Math", name := "max", desc := "(II)I" } : Jvm.MethodName)) ∈ lw_all := lw_g (lw_at lw_m10 84 rfl) rfl
theorem lk_X0_3 : xLk RX0 3 yJ11_max := Or.inl q2440
abbrev cX0_cut : ByteArray := prog_1_method_7_code
def yX0_cut : MethodName := ⟨RX0, "cut", "(Ljava/util/ArrayList;I)V"⟩
theorem q2477 : (Jvm.Cond.code ({ cls := "CompiledHouse", name := "cut", desc := "(Ljava/util/ArrayList;I)V" } : Jvm.MethodName) prog_1_method_7_code (2 : Nat) (Option.none : Option Jvm.ClassFile.FieldType)) ∈ lw_all := lw_g (lw_at lw_m10 121 rfl) rfl
def kX0_cut : xK := (yX0_cut, cX0_cut, 2, none, [])
theorem me_X0_cut : xMe kX0_cut 2 := ⟨q2477, q197, by decide, by decide, by decide +kernel⟩
theorem q2476 : (Jvm.Cond.static ({ cls := "CompiledHouse", name := "cut", desc := "(Ljava/util/ArrayList;I)V" } : Jvm.MethodName)) ∈ lw_all := lw_g (lw_at lw_m10 120 rfl) rfl
theorem st_X0_cut : Cond.static kX0_cut.y ∈ lw_all := q2476
theorem q2394 : (Jvm.Cond.methodLink "CompiledHouse" (9 : Nat) ({ cls := "java/util/ArrayList", name := "size", desc := "()I" } : Jvm.MethodName)) ∈ lw_all := lw_g (lw_at lw_m10 38 rfl) rfl
theorem lk_X0_9 : xLk RX0 9 yJ5_size := Or.inl q2394
theorem q2478 : (Jvm.Cond.methodLink "CompiledHouse" (15 : Nat) ({ cls := "java/util/ArrayList", name := "remove", desc := "(I)Ljava/lang/Object;" } : Jvm.MethodName)) ∈ lw_all := lw_g (lw_at lw_m10 122 rfl) rfl
theorem lk_X0_15 : xLk RX0 15 yJ5_remove := Or.inl q2478
theorem dX37_init_0 : decode cX37_init 0 = .ok (.aload_n 0, 1) := by decide +kernel
theorem dX37_init_1 : decode cX37_init 1 = .ok (.invokespecial 3, 3) := by decide +kernel
theorem dX37_init_4 : decode cX37_init 4 = .ok (.aload_n 0, 1) := by decide +kernel
theorem dX37_init_5 : decode cX37_init 5 = .ok (.iload_n 1, 1) := by decide +kernel
theorem dX37_init_6 : decode cX37_init 6 = .ok (.putfield 9, 3) := by decide +kernel
theorem dX37_init_9 : decode cX37_init 9 = .ok (.aload_n 0, 1) := by decide +kernel
theorem dX37_init_10 : decode cX37_init 10 = .ok (.iload_n 2, 1) := by decide +kernel
theorem dX37_init_11 : decode cX37_init 11 = .ok (.putfield 15, 3) := by decide +kernel
theorem dX37_init_14 : decode cX37_init 14 = .ok (.aload_n 0, 1) := by decide +kernel
theorem dX37_init_15 : decode cX37_init 15 = .ok (.lload_n 3, 1) := by decide +kernel
theorem dX37_init_16 : decode cX37_init 16 = .ok (.putfield 18, 3) := by decide +kernel
theorem dX37_init_19 : decode cX37_init 19 = .ok (.aload_n 0, 1) := by decide +kernel
theorem dX37_init_20 : decode cX37_init 20 = .ok (.lload 5, 2) := by decide +kernel
theorem dX37_init_22 : decode cX37_init 22 = .ok (.putfield 22, 3) := by decide +kernel
theorem dX37_init_25 : decode cX37_init 25 = .ok (.return_, 1) := by decide +kernel
theorem dX37_isLoad_0 : decode cX37_isLoad 0 = .ok (.aload_n 0, 1) := by decide +kernel
theorem dX37_isLoad_1 : decode cX37_isLoad 1 = .ok (.getfield 9, 3) := by decide +kernel
theorem dX37_isLoad_4 : decode cX37_isLoad 4 = .ok (.bipush 21, 2) := by decide +kernel
theorem dX37_isLoad_6 : decode cX37_isLoad 6 = .ok (.if_icmp .eq 12, 3) := by decide +kernel
theorem dX37_isLoad_9 : decode cX37_isLoad 9 = .ok (.aload_n 0, 1) := by decide +kernel
theorem dX37_isLoad_10 : decode cX37_isLoad 10 = .ok (.getfield 9, 3) := by decide +kernel
theorem dX37_isLoad_13 : decode cX37_isLoad 13 = .ok (.bipush 22, 2) := by decide +kernel
theorem dX37_isLoad_15 : decode cX37_isLoad 15 = .ok (.if_icmp .ne 7, 3) := by decide +kernel
theorem dX37_isLoad_18 : decode cX37_isLoad 18 = .ok (.iconst 1, 1) := by decide +kernel
theorem dX37_isLoad_19 : decode cX37_isLoad 19 = .ok (.goto 4, 3) := by decide +kernel
theorem dX37_isLoad_22 : decode cX37_isLoad 22 = .ok (.iconst 0, 1) := by decide +kernel
theorem dX37_isLoad_23 : decode cX37_isLoad 23 = .ok (.ireturn, 1) := by decide +kernel
theorem dX37_isStore_0 : decode cX37_isStore 0 = .ok (.aload_n 0, 1) := by decide +kernel
theorem dX37_isStore_1 : decode cX37_isStore 1 = .ok (.getfield 9, 3) := by decide +kernel
theorem dX37_isStore_4 : decode cX37_isStore 4 = .ok (.bipush 23, 2) := by decide +kernel
theorem dX37_isStore_6 : decode cX37_isStore 6 = .ok (.if_icmp .eq 12, 3) := by decide +kernel
theorem dX37_isStore_9 : decode cX37_isStore 9 = .ok (.aload_n 0, 1) := by decide +kernel
theorem dX37_isStore_10 : decode cX37_isStore 10 = .ok (.getfield 9, 3) := by decide +kernel
theorem dX37_isStore_13 : decode cX37_isStore 13 = .ok (.bipush 24, 2) := by decide +kernel
theorem dX37_isStore_15 : decode cX37_isStore 15 = .ok (.if_icmp .ne 7, 3) := by decide +kernel
theorem dX37_isStore_18 : decode cX37_isStore 18 = .ok (.iconst 1, 1) := by decide +kernel
theorem dX37_isStore_19 : decode cX37_isStore 19 = .ok (.goto 4, 3) := by decide +kernel
theorem dX37_isStore_22 : decode cX37_isStore 22 = .ok (.iconst 0, 1) := by decide +kernel
theorem dX37_isStore_23 : decode cX37_isStore 23 = .ok (.ireturn, 1) := by decide +kernel
theorem dX37_isPure_0 : decode cX37_isPure 0 = .ok (.aload_n 0, 1) := by decide +kernel
theorem dX37_isPure_1 : decode cX37_isPure 1 = .ok (.getfield 9, 3) := by decide +kernel
theorem dX37_isPure_4 : decode cX37_isPure 4 = .ok (.bipush 16, 2) := by decide +kernel
theorem dX37_isPure_6 : decode cX37_isPure 6 = .ok (.if_icmp .le 39, 3) := by decide +kernel
theorem dX37_isPure_9 : decode cX37_isPure 9 = .ok (.aload_n 0, 1) := by decide +kernel
theorem dX37_isPure_10 : decode cX37_isPure 10 = .ok (.getfield 9, 3) := by decide +kernel
theorem dX37_isPure_13 : decode cX37_isPure 13 = .ok (.bipush 20, 2) := by decide +kernel
theorem dX37_isPure_15 : decode cX37_isPure 15 = .ok (.if_icmp .eq 30, 3) := by decide +kernel
theorem dX37_isPure_18 : decode cX37_isPure 18 = .ok (.aload_n 0, 1) := by decide +kernel
theorem dX37_isPure_19 : decode cX37_isPure 19 = .ok (.getfield 9, 3) := by decide +kernel
theorem dX37_isPure_22 : decode cX37_isPure 22 = .ok (.bipush 21, 2) := by decide +kernel
theorem dX37_isPure_24 : decode cX37_isPure 24 = .ok (.if_icmp .eq 21, 3) := by decide +kernel
theorem dX37_isPure_27 : decode cX37_isPure 27 = .ok (.aload_n 0, 1) := by decide +kernel
theorem dX37_isPure_28 : decode cX37_isPure 28 = .ok (.getfield 9, 3) := by decide +kernel
theorem dX37_isPure_31 : decode cX37_isPure 31 = .ok (.bipush 22, 2) := by decide +kernel
theorem dX37_isPure_33 : decode cX37_isPure 33 = .ok (.if_icmp .eq 12, 3) := by decide +kernel
theorem dX37_isPure_36 : decode cX37_isPure 36 = .ok (.aload_n 0, 1) := by decide +kernel
theorem dX37_isPure_37 : decode cX37_isPure 37 = .ok (.getfield 9, 3) := by decide +kernel
theorem dX37_isPure_40 : decode cX37_isPure 40 = .ok (.bipush 32, 2) := by decide +kernel
theorem dX37_isPure_42 : decode cX37_isPure 42 = .ok (.if_icmp .ne 7, 3) := by decide +kernel
theorem dX37_isPure_45 : decode cX37_isPure 45 = .ok (.iconst 1, 1) := by decide +kernel
theorem dX37_isPure_46 : decode cX37_isPure 46 = .ok (.goto 4, 3) := by decide +kernel
theorem dX37_isPure_49 : decode cX37_isPure 49 = .ok (.iconst 0, 1) := by decide +kernel
theorem dX37_isPure_50 : decode cX37_isPure 50 = .ok (.ireturn, 1) := by decide +kernel
theorem dX36_init_0 : decode cX36_init 0 = .ok (.aload_n 0, 1) := by decide +kernel
theorem dX36_init_1 : decode cX36_init 1 = .ok (.invokespecial 3, 3) := by decide +kernel
theorem dX36_init_4 : decode cX36_init 4 = .ok (.aload_n 0, 1) := by decide +kernel
theorem dX36_init_5 : decode cX36_init 5 = .ok (.new 9, 3) := by decide +kernel
theorem dX36_init_8 : decode cX36_init 8 = .ok (.dup, 1) := by decide +kernel
theorem dX36_init_9 : decode cX36_init 9 = .ok (.iconst 2, 1) := by decide +kernel
theorem dX36_init_10 : decode cX36_init 10 = .ok (.invokespecial 11, 3) := by decide +kernel
theorem dX36_init_13 : decode cX36_init 13 = .ok (.putfield 14, 3) := by decide +kernel
theorem dX36_init_16 : decode cX36_init 16 = .ok (.return_, 1) := by decide +kernel
theorem dX36_ends_0 : decode cX36_ends 0 = .ok (.aload_n 0, 1) := by decide +kernel
theorem dX36_ends_1 : decode cX36_ends 1 = .ok (.iload_n 1, 1) := by decide +kernel
theorem dX36_ends_2 : decode cX36_ends 2 = .ok (.putfield 20, 3) := by decide +kernel
theorem dX36_ends_5 : decode cX36_ends 5 = .ok (.aload_n 0, 1) := by decide +kernel
theorem dX36_ends_6 : decode cX36_ends 6 = .ok (.lload_n 2, 1) := by decide +kernel
theorem dX36_ends_7 : decode cX36_ends 7 = .ok (.putfield 24, 3) := by decide +kernel
theorem dX36_ends_10 : decode cX36_ends 10 = .ok (.aload_n 0, 1) := by decide +kernel
theorem dX36_ends_11 : decode cX36_ends 11 = .ok (.aload 4, 2) := by decide +kernel
theorem dX36_ends_13 : decode cX36_ends 13 = .ok (.putfield 28, 3) := by decide +kernel
theorem dX36_ends_16 : decode cX36_ends 16 = .ok (.aload_n 0, 1) := by decide +kernel
theorem dX36_ends_17 : decode cX36_ends 17 = .ok (.aconst_null, 1) := by decide +kernel
theorem dX36_ends_18 : decode cX36_ends 18 = .ok (.putfield 32, 3) := by decide +kernel
theorem dX36_ends_21 : decode cX36_ends 21 = .ok (.return_, 1) := by decide +kernel
theorem dX36_settle_0 : decode cX36_settle 0 = .ok (.aload_n 0, 1) := by decide +kernel
theorem dX36_settle_1 : decode cX36_settle 1 = .ok (.iconst 1, 1) := by decide +kernel
theorem dX36_settle_2 : decode cX36_settle 2 = .ok (.lconst 0, 1) := by decide +kernel
theorem dX36_settle_3 : decode cX36_settle 3 = .ok (.iload_n 1, 1) := by decide +kernel
theorem dX36_settle_4 : decode cX36_settle 4 = .ok (.ifCond .eq 10, 3) := by decide +kernel
theorem dX36_settle_7 : decode cX36_settle 7 = .ok (.aload_n 0, 1) := by decide +kernel
theorem dX36_settle_8 : decode cX36_settle 8 = .ok (.getfield 28, 3) := by decide +kernel
theorem dX36_settle_11 : decode cX36_settle 11 = .ok (.goto 7, 3) := by decide +kernel
theorem dX36_settle_14 : decode cX36_settle 14 = .ok (.aload_n 0, 1) := by decide +kernel
theorem dX36_settle_15 : decode cX36_settle 15 = .ok (.getfield 32, 3) := by decide +kernel
theorem dX36_settle_18 : decode cX36_settle 18 = .ok (.invokevirtual 35, 3) := by decide +kernel
theorem dX36_settle_21 : decode cX36_settle 21 = .ok (.return_, 1) := by decide +kernel
theorem dX35_init_0 : decode cX35_init 0 = .ok (.aload_n 0, 1) := by decide +kernel
theorem dX35_init_1 : decode cX35_init 1 = .ok (.invokespecial 1, 3) := by decide +kernel
theorem dX35_init_4 : decode cX35_init 4 = .ok (.aload_n 0, 1) := by decide +kernel
theorem dX35_init_5 : decode cX35_init 5 = .ok (.new 7, 3) := by decide +kernel
theorem dX35_init_8 : decode cX35_init 8 = .ok (.dup, 1) := by decide +kernel
theorem dX35_init_9 : decode cX35_init 9 = .ok (.invokespecial 9, 3) := by decide +kernel
theorem dX35_init_12 : decode cX35_init 12 = .ok (.putfield 10, 3) := by decide +kernel
theorem dX35_init_15 : decode cX35_init 15 = .ok (.aload_n 0, 1) := by decide +kernel
theorem dX35_init_16 : decode cX35_init 16 = .ok (.new 7, 3) := by decide +kernel
theorem dX35_init_19 : decode cX35_init 19 = .ok (.dup, 1) := by decide +kernel
theorem dX35_init_20 : decode cX35_init 20 = .ok (.iconst 4, 1) := by decide +kernel
theorem dX35_init_21 : decode cX35_init 21 = .ok (.invokespecial 16, 3) := by decide +kernel
theorem dX35_init_24 : decode cX35_init 24 = .ok (.putfield 19, 3) := by decide +kernel
theorem dX35_init_27 : decode cX35_init 27 = .ok (.aload_n 0, 1) := by decide +kernel
theorem dX35_init_28 : decode cX35_init 28 = .ok (.aload_n 1, 1) := by decide +kernel
theorem dX35_init_29 : decode cX35_init 29 = .ok (.putfield 22, 3) := by decide +kernel
theorem dX35_init_32 : decode cX35_init 32 = .ok (.return_, 1) := by decide +kernel
theorem dX34_init_0 : decode cX34_init 0 = .ok (.aload_n 0, 1) := by decide +kernel
theorem dX34_init_1 : decode cX34_init 1 = .ok (.invokespecial 3, 3) := by decide +kernel
theorem dX34_init_4 : decode cX34_init 4 = .ok (.aload_n 0, 1) := by decide +kernel
theorem dX34_init_5 : decode cX34_init 5 = .ok (.iload_n 1, 1) := by decide +kernel
theorem dX34_init_6 : decode cX34_init 6 = .ok (.putfield 9, 3) := by decide +kernel
theorem dX34_init_9 : decode cX34_init 9 = .ok (.aload_n 0, 1) := by decide +kernel
theorem dX34_init_10 : decode cX34_init 10 = .ok (.iload_n 2, 1) := by decide +kernel
theorem dX34_init_11 : decode cX34_init 11 = .ok (.putfield 15, 3) := by decide +kernel
theorem dX34_init_14 : decode cX34_init 14 = .ok (.aload_n 0, 1) := by decide +kernel
theorem dX34_init_15 : decode cX34_init 15 = .ok (.iload_n 3, 1) := by decide +kernel
theorem dX34_init_16 : decode cX34_init 16 = .ok (.putfield 18, 3) := by decide +kernel
theorem dX34_init_19 : decode cX34_init 19 = .ok (.return_, 1) := by decide +kernel
theorem dX34_isArray_0 : decode cX34_isArray 0 = .ok (.aload_n 0, 1) := by decide +kernel
theorem dX34_isArray_1 : decode cX34_isArray 1 = .ok (.getfield 15, 3) := by decide +kernel
theorem dX34_isArray_4 : decode cX34_isArray 4 = .ok (.iconst 2, 1) := by decide +kernel
theorem dX34_isArray_5 : decode cX34_isArray 5 = .ok (.if_icmp .eq 19, 3) := by decide +kernel
theorem dX34_isArray_8 : decode cX34_isArray 8 = .ok (.aload_n 0, 1) := by decide +kernel
theorem dX34_isArray_9 : decode cX34_isArray 9 = .ok (.getfield 15, 3) := by decide +kernel
theorem dX34_isArray_12 : decode cX34_isArray 12 = .ok (.iconst 4, 1) := by decide +kernel
theorem dX34_isArray_13 : decode cX34_isArray 13 = .ok (.if_icmp .eq 11, 3) := by decide +kernel
theorem dX34_isArray_16 : decode cX34_isArray 16 = .ok (.aload_n 0, 1) := by decide +kernel
theorem dX34_isArray_17 : decode cX34_isArray 17 = .ok (.getfield 15, 3) := by decide +kernel
theorem dX34_isArray_20 : decode cX34_isArray 20 = .ok (.iconst 5, 1) := by decide +kernel
theorem dX34_isArray_21 : decode cX34_isArray 21 = .ok (.if_icmp .ne 7, 3) := by decide +kernel
theorem dX34_isArray_24 : decode cX34_isArray 24 = .ok (.iconst 1, 1) := by decide +kernel
theorem dX34_isArray_25 : decode cX34_isArray 25 = .ok (.goto 4, 3) := by decide +kernel
theorem dX34_isArray_28 : decode cX34_isArray 28 = .ok (.iconst 0, 1) := by decide +kernel
theorem dX34_isArray_29 : decode cX34_isArray 29 = .ok (.ireturn, 1) := by decide +kernel
theorem dX14_init_0 : decode cX14_init 0 = .ok (.aload_n 0, 1) := by decide +kernel
theorem dX14_init_1 : decode cX14_init 1 = .ok (.invokespecial 1, 3) := by decide +kernel
theorem dX14_init_4 : decode cX14_init 4 = .ok (.aload_n 0, 1) := by decide +kernel
theorem dX14_init_5 : decode cX14_init 5 = .ok (.iload_n 1, 1) := by decide +kernel
theorem dX14_init_6 : decode cX14_init 6 = .ok (.putfield 7, 3) := by decide +kernel
theorem dX14_init_9 : decode cX14_init 9 = .ok (.aload_n 0, 1) := by decide +kernel
theorem dX14_init_10 : decode cX14_init 10 = .ok (.iload_n 2, 1) := by decide +kernel
theorem dX14_init_11 : decode cX14_init 11 = .ok (.putfield 13, 3) := by decide +kernel
theorem dX14_init_14 : decode cX14_init 14 = .ok (.aload_n 0, 1) := by decide +kernel
theorem dX14_init_15 : decode cX14_init 15 = .ok (.iload_n 3, 1) := by decide +kernel
theorem dX14_init_16 : decode cX14_init 16 = .ok (.putfield 16, 3) := by decide +kernel
theorem dX14_init_19 : decode cX14_init 19 = .ok (.return_, 1) := by decide +kernel
theorem dX14_words_0 : decode cX14_words 0 = .ok (.iconst 0, 1) := by decide +kernel
theorem dX14_words_1 : decode cX14_words 1 = .ok (.istore_n 1, 1) := by decide +kernel
theorem dX14_words_2 : decode cX14_words 2 = .ok (.iconst 0, 1) := by decide +kernel
theorem dX14_words_3 : decode cX14_words 3 = .ok (.istore_n 2, 1) := by decide +kernel
theorem dX14_words_4 : decode cX14_words 4 = .ok (.iload_n 2, 1) := by decide +kernel
theorem dX14_words_5 : decode cX14_words 5 = .ok (.aload_n 0, 1) := by decide +kernel
theorem dX14_words_6 : decode cX14_words 6 = .ok (.getfield 19, 3) := by decide +kernel
theorem dX14_words_9 : decode cX14_words 9 = .ok (.invokevirtual 23, 3) := by decide +kernel
theorem dX14_words_12 : decode cX14_words 12 = .ok (.if_icmp .ge 34, 3) := by decide +kernel
theorem dX14_words_15 : decode cX14_words 15 = .ok (.iload_n 1, 1) := by decide +kernel
theorem dX14_words_16 : decode cX14_words 16 = .ok (.aload_n 0, 1) := by decide +kernel
theorem dX14_words_17 : decode cX14_words 17 = .ok (.getfield 19, 3) := by decide +kernel
theorem dX14_words_20 : decode cX14_words 20 = .ok (.iload_n 2, 1) := by decide +kernel
theorem dX14_words_21 : decode cX14_words 21 = .ok (.invokevirtual 29, 3) := by decide +kernel
theorem dX14_words_24 : decode cX14_words 24 = .ok (.checkcast 33, 3) := by decide +kernel
theorem dX14_words_27 : decode cX14_words 27 = .ok (.getfield 35, 3) := by decide +kernel
theorem dX14_words_30 : decode cX14_words 30 = .ok (.ifCond .eq 7, 3) := by decide +kernel
theorem dX14_words_33 : decode cX14_words 33 = .ok (.iconst 2, 1) := by decide +kernel
theorem dX14_words_34 : decode cX14_words 34 = .ok (.goto 4, 3) := by decide +kernel
theorem dX14_words_37 : decode cX14_words 37 = .ok (.iconst 1, 1) := by decide +kernel
theorem dX14_words_38 : decode cX14_words 38 = .ok (.iadd, 1) := by decide +kernel
theorem dX14_words_39 : decode cX14_words 39 = .ok (.istore_n 1, 1) := by decide +kernel
theorem dX14_words_40 : decode cX14_words 40 = .ok (.iinc 2 1, 3) := by decide +kernel
theorem dX14_words_43 : decode cX14_words 43 = .ok (.goto (-39), 3) := by decide +kernel
theorem dX14_words_46 : decode cX14_words 46 = .ok (.iload_n 1, 1) := by decide +kernel
theorem dX14_words_47 : decode cX14_words 47 = .ok (.ireturn, 1) := by decide +kernel
theorem dX24_init_0 : decode cX24_init 0 = .ok (.aload_n 0, 1) := by decide +kernel
theorem dX24_init_1 : decode cX24_init 1 = .ok (.invokespecial 1, 3) := by decide +kernel
theorem dX24_init_4 : decode cX24_init 4 = .ok (.aload_n 0, 1) := by decide +kernel
theorem dX24_init_5 : decode cX24_init 5 = .ok (.iload_n 1, 1) := by decide +kernel
theorem dX24_init_6 : decode cX24_init 6 = .ok (.putfield 7, 3) := by decide +kernel
theorem dX24_init_9 : decode cX24_init 9 = .ok (.aload_n 0, 1) := by decide +kernel
theorem dX24_init_10 : decode cX24_init 10 = .ok (.iload_n 2, 1) := by decide +kernel
theorem dX24_init_11 : decode cX24_init 11 = .ok (.putfield 13, 3) := by decide +kernel
theorem dX24_init_14 : decode cX24_init 14 = .ok (.aload_n 0, 1) := by decide +kernel
theorem dX24_init_15 : decode cX24_init 15 = .ok (.iload_n 3, 1) := by decide +kernel
theorem dX24_init_16 : decode cX24_init 16 = .ok (.putfield 16, 3) := by decide +kernel
theorem dX24_init_19 : decode cX24_init 19 = .ok (.aload_n 0, 1) := by decide +kernel
theorem dX24_init_20 : decode cX24_init 20 = .ok (.iload 4, 2) := by decide +kernel
theorem dX24_init_22 : decode cX24_init 22 = .ok (.putfield 19, 3) := by decide +kernel
theorem dX24_init_25 : decode cX24_init 25 = .ok (.aload_n 0, 1) := by decide +kernel
theorem dX24_init_26 : decode cX24_init 26 = .ok (.iload 5, 2) := by decide +kernel
theorem dX24_init_28 : decode cX24_init 28 = .ok (.putfield 23, 3) := by decide +kernel
theorem dX24_init_31 : decode cX24_init 31 = .ok (.return_, 1) := by decide +kernel
theorem dX0_roomFor_0 : decode cX0_roomFor 0 = .ok (.aload_n 0, 1) := by decide +kernel
theorem dX0_roomFor_1 : decode cX0_roomFor 1 = .ok (.arraylength, 1) := by decide +kernel
theorem dX0_roomFor_2 : decode cX0_roomFor 2 = .ok (.iload_n 1, 1) := by decide +kernel
theorem dX0_roomFor_3 : decode cX0_roomFor 3 = .ok (.if_icmp .lt 7, 3) := by decide +kernel
theorem dX0_roomFor_6 : decode cX0_roomFor 6 = .ok (.aload_n 0, 1) := by decide +kernel
theorem dX0_roomFor_7 : decode cX0_roomFor 7 = .ok (.goto 13, 3) := by decide +kernel
theorem dX0_roomFor_10 : decode cX0_roomFor 10 = .ok (.iload_n 1, 1) := by decide +kernel
theorem dX0_roomFor_11 : decode cX0_roomFor 11 = .ok (.iconst 2, 1) := by decide +kernel
theorem dX0_roomFor_12 : decode cX0_roomFor 12 = .ok (.aload_n 0, 1) := by decide +kernel
theorem dX0_roomFor_13 : decode cX0_roomFor 13 = .ok (.arraylength, 1) := by decide +kernel
theorem dX0_roomFor_14 : decode cX0_roomFor 14 = .ok (.imul, 1) := by decide +kernel
theorem dX0_roomFor_15 : decode cX0_roomFor 15 = .ok (.invokestatic 3, 3) := by decide +kernel
theorem dX0_roomFor_18 : decode cX0_roomFor 18 = .ok (.newarray .int, 2) := by decide +kernel
theorem dX0_roomFor_20 : decode cX0_roomFor 20 = .ok (.areturn, 1) := by decide +kernel
theorem dX0_roomFor_2_0 : decode cX0_roomFor_2 0 = .ok (.aload_n 0, 1) := by decide +kernel
theorem dX0_roomFor_2_1 : decode cX0_roomFor_2 1 = .ok (.arraylength, 1) := by decide +kernel
theorem dX0_roomFor_2_2 : decode cX0_roomFor_2 2 = .ok (.iload_n 1, 1) := by decide +kernel
theorem dX0_roomFor_2_3 : decode cX0_roomFor_2 3 = .ok (.if_icmp .lt 7, 3) := by decide +kernel
theorem dX0_roomFor_2_6 : decode cX0_roomFor_2 6 = .ok (.aload_n 0, 1) := by decide +kernel
theorem dX0_roomFor_2_7 : decode cX0_roomFor_2 7 = .ok (.goto 13, 3) := by decide +kernel
theorem dX0_roomFor_2_10 : decode cX0_roomFor_2 10 = .ok (.iload_n 1, 1) := by decide +kernel
theorem dX0_roomFor_2_11 : decode cX0_roomFor_2 11 = .ok (.iconst 2, 1) := by decide +kernel
theorem dX0_roomFor_2_12 : decode cX0_roomFor_2 12 = .ok (.aload_n 0, 1) := by decide +kernel
theorem dX0_roomFor_2_13 : decode cX0_roomFor_2 13 = .ok (.arraylength, 1) := by decide +kernel
theorem dX0_roomFor_2_14 : decode cX0_roomFor_2 14 = .ok (.imul, 1) := by decide +kernel
theorem dX0_roomFor_2_15 : decode cX0_roomFor_2 15 = .ok (.invokestatic 3, 3) := by decide +kernel
theorem dX0_roomFor_2_18 : decode cX0_roomFor_2 18 = .ok (.newarray .long, 2) := by decide +kernel
theorem dX0_roomFor_2_20 : decode cX0_roomFor_2 20 = .ok (.areturn, 1) := by decide +kernel
theorem dX0_roomFor_3_0 : decode cX0_roomFor_3 0 = .ok (.aload_n 0, 1) := by decide +kernel
theorem dX0_roomFor_3_1 : decode cX0_roomFor_3 1 = .ok (.arraylength, 1) := by decide +kernel
theorem dX0_roomFor_3_2 : decode cX0_roomFor_3 2 = .ok (.iload_n 1, 1) := by decide +kernel
theorem dX0_roomFor_3_3 : decode cX0_roomFor_3 3 = .ok (.if_icmp .lt 7, 3) := by decide +kernel
theorem dX0_roomFor_3_6 : decode cX0_roomFor_3 6 = .ok (.aload_n 0, 1) := by decide +kernel
theorem dX0_roomFor_3_7 : decode cX0_roomFor_3 7 = .ok (.goto 13, 3) := by decide +kernel
theorem dX0_roomFor_3_10 : decode cX0_roomFor_3 10 = .ok (.iload_n 1, 1) := by decide +kernel
theorem dX0_roomFor_3_11 : decode cX0_roomFor_3 11 = .ok (.iconst 2, 1) := by decide +kernel
theorem dX0_roomFor_3_12 : decode cX0_roomFor_3 12 = .ok (.aload_n 0, 1) := by decide +kernel
theorem dX0_roomFor_3_13 : decode cX0_roomFor_3 13 = .ok (.arraylength, 1) := by decide +kernel
theorem dX0_roomFor_3_14 : decode cX0_roomFor_3 14 = .ok (.imul, 1) := by decide +kernel
theorem dX0_roomFor_3_15 : decode cX0_roomFor_3 15 = .ok (.invokestatic 3, 3) := by decide +kernel
theorem dX0_roomFor_3_18 : decode cX0_roomFor_3 18 = .ok (.newarray .boolean, 2) := by decide +kernel
theorem dX0_roomFor_3_20 : decode cX0_roomFor_3 20 = .ok (.areturn, 1) := by decide +kernel
theorem dX0_cut_0 : decode cX0_cut 0 = .ok (.aload_n 0, 1) := by decide +kernel
theorem dX0_cut_1 : decode cX0_cut 1 = .ok (.invokevirtual 9, 3) := by decide +kernel
theorem dX0_cut_4 : decode cX0_cut 4 = .ok (.iload_n 1, 1) := by decide +kernel
theorem dX0_cut_5 : decode cX0_cut 5 = .ok (.if_icmp .le 17, 3) := by decide +kernel
theorem dX0_cut_8 : decode cX0_cut 8 = .ok (.aload_n 0, 1) := by decide +kernel
theorem dX0_cut_9 : decode cX0_cut 9 = .ok (.aload_n 0, 1) := by decide +kernel
theorem dX0_cut_10 : decode cX0_cut 10 = .ok (.invokevirtual 9, 3) := by decide +kernel
theorem dX0_cut_13 : decode cX0_cut 13 = .ok (.iconst 1, 1) := by decide +kernel
theorem dX0_cut_14 : decode cX0_cut 14 = .ok (.isub, 1) := by decide +kernel
theorem dX0_cut_15 : decode cX0_cut 15 = .ok (.invokevirtual 15, 3) := by decide +kernel
theorem dX0_cut_18 : decode cX0_cut 18 = .ok (.pop, 1) := by decide +kernel
theorem dX0_cut_19 : decode cX0_cut 19 = .ok (.goto (-19), 3) := by decide +kernel
theorem dX0_cut_22 : decode cX0_cut 22 = .ok (.return_, 1) := by decide +kernel
