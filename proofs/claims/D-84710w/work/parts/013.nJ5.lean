/-! names: J5 J4_init J3_init J13_checkIndex J8_checkIndex J10_newLength J11_max J11_min J12_copyOf J12_copyOf_2 (tools/names.py) -/
set_option maxRecDepth 100000
abbrev cJ5_init : ByteArray := prog_58_method_2_code
def yJ5_init : MethodName := ⟨RJ5, "<init>", "()V"⟩
theorem q457 : (Jvm.Cond.code ({ cls := "java/util/ArrayList", name := "<init>", desc := "()V" } : Jvm.MethodName) prog_58_method_2_code (1 : Nat) (Option.none : Option Jvm.ClassFile.FieldType)) ∈ lw_all := lw_g (lw_at lw_m2 21 rfl) rfl
def kJ5_init : xK := (yJ5_init, cJ5_init, 1, none, [])
theorem me_J5_init : xMe kJ5_init 0 := ⟨q457, q208, by decide, by decide, by decide +kernel⟩
theorem q456 : (Jvm.Cond.instanceMethod ({ cls := "java/util/ArrayList", name := "<init>", desc := "()V" } : Jvm.MethodName)) ∈ lw_all := lw_g (lw_at lw_m2 20 rfl) rfl
theorem is_J5_init : Cond.instanceMethod kJ5_init.y ∈ lw_all := q456
theorem q458 : (Jvm.Cond.methodLink "java/util/ArrayList" (1 : Nat) ({ cls := "java/util/AbstractList", name := "<init>", desc := "()V" } : Jvm.MethodName)) ∈ lw_all := lw_g (lw_at lw_m2 22 rfl) rfl
abbrev cJ4_init : ByteArray := prog_57_method_1_code
def yJ4_init : MethodName := ⟨RJ4, "<init>", "()V"⟩
theorem q460 : (Jvm.Cond.code ({ cls := "java/util/AbstractList", name := "<init>", desc := "()V" } : Jvm.MethodName) prog_57_method_1_code (1 : Nat) (Option.none : Option Jvm.ClassFile.FieldType)) ∈ lw_all := lw_g (lw_at lw_m2 24 rfl) rfl
theorem q207 : (Jvm.Cond.initialized "java/util/AbstractList") ∈ lw_all := lw_g (lw_at lw_m1 11 rfl) rfl
def kJ4_init : xK := (yJ4_init, cJ4_init, 1, none, [])
theorem me_J4_init : xMe kJ4_init 0 := ⟨q460, q207, by decide, by decide, by decide +kernel⟩
theorem q459 : (Jvm.Cond.instanceMethod ({ cls := "java/util/AbstractList", name := "<init>", desc := "()V" } : Jvm.MethodName)) ∈ lw_all := lw_g (lw_at lw_m2 23 rfl) rfl
theorem is_J4_init : Cond.instanceMethod kJ4_init.y ∈ lw_all := q459
theorem lk_J5_1 : xLk RJ5 1 yJ4_init := Or.inl q458
theorem q465 : (Jvm.Cond.fieldLink "java/util/ArrayList" (39 : Nat) "java/util/ArrayList" "DEFAULTCAPACITY_EMPTY_ELEMENTDATA" "[Ljava/lang/Object;") ∈ lw_all := lw_g (lw_at lw_m2 29 rfl) rfl
theorem q467 : (Jvm.Cond.fieldLink "java/util/ArrayList" (9 : Nat) "java/util/ArrayList" "elementData" "[Ljava/lang/Object;") ∈ lw_all := lw_g (lw_at lw_m2 31 rfl) rfl
theorem f_J5_9_36 : xF RJ5 9 36 1 := ⟨_, "java/util/ArrayList", rfl, by decide, Or.inl q467, Or.inl rfl⟩
abbrev cJ5_clear : ByteArray := prog_58_method_40_code
def yJ5_clear : MethodName := ⟨RJ5, "clear", "()V"⟩
theorem q961 : (Jvm.Cond.code ({ cls := "java/util/ArrayList", name := "clear", desc := "()V" } : Jvm.MethodName) prog_58_method_40_code (4 : Nat) (Option.none : Option Jvm.ClassFile.FieldType)) ∈ lw_all := lw_g (lw_at lw_m4 45 rfl) rfl
def kJ5_clear : xK := (yJ5_clear, cJ5_clear, 4, none, [])
theorem me_J5_clear : xMe kJ5_clear 0 := ⟨q961, q208, by decide, by decide, by decide +kernel⟩
theorem q959 : (Jvm.Cond.instanceMethod ({ cls := "java/util/ArrayList", name := "clear", desc := "()V" } : Jvm.MethodName)) ∈ lw_all := lw_g (lw_at lw_m4 43 rfl) rfl
theorem is_J5_clear : Cond.instanceMethod kJ5_clear.y ∈ lw_all := q959
theorem q960 : (Jvm.Cond.selects "java/util/ArrayList" ({ cls := "java/util/ArrayList", name := "clear", desc := "()V" } : Jvm.MethodName) ({ cls := "java/util/ArrayList", name := "clear", desc := "()V" } : Jvm.MethodName)) ∈ lw_all := lw_g (lw_at lw_m4 44 rfl) rfl
theorem se_J5_clear : Cond.selects RJ5 kJ5_clear.y kJ5_clear.y ∈ lw_all := q960
theorem q470 : (Jvm.Cond.fieldLink "java/util/ArrayList" (63 : Nat) "java/util/ArrayList" "modCount" "I") ∈ lw_all := lw_g (lw_at lw_m2 34 rfl) rfl
theorem q471 : (Jvm.Cond.sameField "java/util/ArrayList" "java/util/AbstractList" "modCount" "I") ∈ lw_all := lw_g (lw_at lw_m2 35 rfl) rfl
theorem f_J5_63_36 : xF RJ5 63 36 0 := ⟨_, "java/util/ArrayList", rfl, by decide, Or.inl q470, Or.inr q471⟩
theorem q468 : (Jvm.Cond.fieldLink "java/util/ArrayList" (48 : Nat) "java/util/ArrayList" "size" "I") ∈ lw_all := lw_g (lw_at lw_m2 32 rfl) rfl
theorem f_J5_48_36 : xF RJ5 48 36 2 := ⟨_, "java/util/ArrayList", rfl, by decide, Or.inl q468, Or.inl rfl⟩
abbrev cJ5_init_2 : ByteArray := prog_58_method_1_code
def yJ5_init_2 : MethodName := ⟨RJ5, "<init>", "(I)V"⟩
theorem q1219 : (Jvm.Cond.code ({ cls := "java/util/ArrayList", name := "<init>", desc := "(I)V" } : Jvm.MethodName) prog_58_method_1_code (2 : Nat) (Option.none : Option Jvm.ClassFile.FieldType)) ∈ lw_all := lw_g (lw_at lw_m5 63 rfl) rfl
def kJ5_init_2 : xK := (yJ5_init_2, cJ5_init_2, 2, none, [])
theorem me_J5_init_2 : xMe kJ5_init_2 1 := ⟨q1219, q208, by decide, by decide, by decide +kernel⟩
theorem q1218 : (Jvm.Cond.instanceMethod ({ cls := "java/util/ArrayList", name := "<init>", desc := "(I)V" } : Jvm.MethodName)) ∈ lw_all := lw_g (lw_at lw_m5 62 rfl) rfl
theorem is_J5_init_2 : Cond.instanceMethod kJ5_init_2.y ∈ lw_all := q1218
theorem q1220 : (Jvm.Cond.classLink "java/util/ArrayList" (7 : Nat) "java/lang/Object") ∈ lw_all := lw_g (lw_at lw_m5 64 rfl) rfl
theorem q1222 : (Jvm.Cond.fieldLink "java/util/ArrayList" (15 : Nat) "java/util/ArrayList" "EMPTY_ELEMENTDATA" "[Ljava/lang/Object;") ∈ lw_all := lw_g (lw_at lw_m5 66 rfl) rfl
abbrev cJ5_add : ByteArray := prog_58_method_25_code
def yJ5_add : MethodName := ⟨RJ5, "add", "(Ljava/lang/Object;)Z"⟩
theorem q1231 : (Jvm.Cond.code ({ cls := "java/util/ArrayList", name := "add", desc := "(Ljava/lang/Object;)Z" } : Jvm.MethodName) prog_58_method_25_code (2 : Nat) (Option.some Jvm.ClassFile.FieldType.boolean)) ∈ lw_all := lw_g (lw_at lw_m5 75 rfl) rfl
def kJ5_add : xK := (yJ5_add, cJ5_add, 2, some .boolean, [])
theorem me_J5_add : xMe kJ5_add 1 := ⟨q1231, q208, by decide, by decide, by decide +kernel⟩
theorem q1229 : (Jvm.Cond.instanceMethod ({ cls := "java/util/ArrayList", name := "add", desc := "(Ljava/lang/Object;)Z" } : Jvm.MethodName)) ∈ lw_all := lw_g (lw_at lw_m5 73 rfl) rfl
theorem is_J5_add : Cond.instanceMethod kJ5_add.y ∈ lw_all := q1229
theorem q1230 : (Jvm.Cond.selects "java/util/ArrayList" ({ cls := "java/util/ArrayList", name := "add", desc := "(Ljava/lang/Object;)Z" } : Jvm.MethodName) ({ cls := "java/util/ArrayList", name := "add", desc := "(Ljava/lang/Object;)Z" } : Jvm.MethodName)) ∈ lw_all := lw_g (lw_at lw_m5 74 rfl) rfl
theorem se_J5_add : Cond.selects RJ5 kJ5_add.y kJ5_add.y ∈ lw_all := q1230
theorem q1232 : (Jvm.Cond.methodLink "java/util/ArrayList" (131 : Nat) ({ cls := "java/util/ArrayList", name := "add", desc := "(Ljava/lang/Object;[Ljava/lang/Object;I)V" } : Jvm.MethodName)) ∈ lw_all := lw_g (lw_at lw_m5 76 rfl) rfl
abbrev cJ5_add_2 : ByteArray := prog_58_method_24_code
def yJ5_add_2 : MethodName := ⟨RJ5, "add", "(Ljava/lang/Object;[Ljava/lang/Object;I)V"⟩
theorem q1235 : (Jvm.Cond.code ({ cls := "java/util/ArrayList", name := "add", desc := "(Ljava/lang/Object;[Ljava/lang/Object;I)V" } : Jvm.MethodName) prog_58_method_24_code (4 : Nat) (Option.none : Option Jvm.ClassFile.FieldType)) ∈ lw_all := lw_g (lw_at lw_m5 79 rfl) rfl
def kJ5_add_2 : xK := (yJ5_add_2, cJ5_add_2, 4, none, [])
theorem me_J5_add_2 : xMe kJ5_add_2 3 := ⟨q1235, q208, by decide, by decide, by decide +kernel⟩
theorem q1234 : (Jvm.Cond.instanceMethod ({ cls := "java/util/ArrayList", name := "add", desc := "(Ljava/lang/Object;[Ljava/lang/Object;I)V" } : Jvm.MethodName)) ∈ lw_all := lw_g (lw_at lw_m5 78 rfl) rfl
theorem is_J5_add_2 : Cond.instanceMethod kJ5_add_2.y ∈ lw_all := q1234
theorem se_J5_add_2 : Cond.selects RJ5 kJ5_add_2.y kJ5_add_2.y ∈ lw_all := qs25
theorem lk_J5_131 : xLk RJ5 131 yJ5_add_2 := Or.inl q1232
theorem q1236 : (Jvm.Cond.methodLink "java/util/ArrayList" (129 : Nat) ({ cls := "java/util/ArrayList", name := "grow", desc := "()[Ljava/lang/Object;" } : Jvm.MethodName)) ∈ lw_all := lw_g (lw_at lw_m5 80 rfl) rfl
abbrev cJ5_grow : ByteArray := prog_58_method_7_code
def yJ5_grow : MethodName := ⟨RJ5, "grow", "()[Ljava/lang/Object;"⟩
theorem q1239 : (Jvm.Cond.code ({ cls := "java/util/ArrayList", name := "grow", desc := "()[Ljava/lang/Object;" } : Jvm.MethodName) prog_58_method_7_code (1 : Nat) (Option.some (Jvm.ClassFile.FieldType.array (Jvm.ClassFile.FieldType.object "java/lang/Object")))) ∈ lw_all := lw_g (lw_at lw_m5 83 rfl) rfl
def kJ5_grow : xK := (yJ5_grow, cJ5_grow, 1, some (.array (.object "java/lang/Object")), [])
theorem me_J5_grow : xMe kJ5_grow 0 := ⟨q1239, q208, by decide, by decide, by decide +kernel⟩
theorem q1238 : (Jvm.Cond.instanceMethod ({ cls := "java/util/ArrayList", name := "grow", desc := "()[Ljava/lang/Object;" } : Jvm.MethodName)) ∈ lw_all := lw_g (lw_at lw_m5 82 rfl) rfl
theorem is_J5_grow : Cond.instanceMethod kJ5_grow.y ∈ lw_all := q1238
theorem se_J5_grow : Cond.selects RJ5 kJ5_grow.y kJ5_grow.y ∈ lw_all := qs26
theorem lk_J5_129 : xLk RJ5 129 yJ5_grow := Or.inl q1236
theorem q1240 : (Jvm.Cond.methodLink "java/util/ArrayList" (69 : Nat) ({ cls := "java/util/ArrayList", name := "grow", desc := "(I)[Ljava/lang/Object;" } : Jvm.MethodName)) ∈ lw_all := lw_g (lw_at lw_m5 84 rfl) rfl
abbrev cJ5_grow_2 : ByteArray := prog_58_method_6_code
def yJ5_grow_2 : MethodName := ⟨RJ5, "grow", "(I)[Ljava/lang/Object;"⟩
theorem q1243 : (Jvm.Cond.code ({ cls := "java/util/ArrayList", name := "grow", desc := "(I)[Ljava/lang/Object;" } : Jvm.MethodName) prog_58_method_6_code (4 : Nat) (Option.some (Jvm.ClassFile.FieldType.array (Jvm.ClassFile.FieldType.object "java/lang/Object")))) ∈ lw_all := lw_g (lw_at lw_m5 87 rfl) rfl
def kJ5_grow_2 : xK := (yJ5_grow_2, cJ5_grow_2, 4, some (.array (.object "java/lang/Object")), [])
theorem me_J5_grow_2 : xMe kJ5_grow_2 1 := ⟨q1243, q208, by decide, by decide, by decide +kernel⟩
theorem q1242 : (Jvm.Cond.instanceMethod ({ cls := "java/util/ArrayList", name := "grow", desc := "(I)[Ljava/lang/Object;" } : Jvm.MethodName)) ∈ lw_all := lw_g (lw_at lw_m5 86 rfl) rfl
theorem is_J5_grow_2 : Cond.instanceMethod kJ5_grow_2.y ∈ lw_all := q1242
theorem se_J5_grow_2 : Cond.selects RJ5 kJ5_grow_2.y kJ5_grow_2.y ∈ lw_all := qs27
theorem lk_J5_69 : xLk RJ5 69 yJ5_grow_2 := Or.inl q1240
theorem q1244 : (Jvm.Cond.methodLink "java/util/ArrayList" (73 : Nat) ({ cls := "jdk/internal/util/ArraysSupport", name := "newLength", desc := "(III)I" } : Jvm.MethodName)) ∈ lw_all := lw_g (lw_at lw_m5 88 rfl) rfl
abbrev cJ10_newLength : ByteArray := prog_65_method_27_code
def yJ10_newLength : MethodName := ⟨RJ10, "newLength", "(III)I"⟩
theorem q1246 : (Jvm.Cond.code ({ cls := "jdk/internal/util/ArraysSupport", name := "newLength", desc := "(III)I" } : Jvm.MethodName) prog_65_method_27_code (4 : Nat) (Option.some Jvm.ClassFile.FieldType.int)) ∈ lw_all := lw_g (lw_at lw_m5 90 rfl) rfl
theorem q224 : (Jvm.Cond.initialized "jdk/internal/util/ArraysSupport") ∈ lw_all := lw_g (lw_at lw_m1 28 rfl) rfl
def kJ10_newLength : xK := (yJ10_newLength, cJ10_newLength, 4, some .int, [])
theorem me_J10_newLength : xMe kJ10_newLength 3 := ⟨q1246, q224, by decide, by decide, by decide +kernel⟩
theorem q1245 : (Jvm.Cond.static ({ cls := "jdk/internal/util/ArraysSupport", name := "newLength", desc := "(III)I" } : Jvm.MethodName)) ∈ lw_all := lw_g (lw_at lw_m5 89 rfl) rfl
theorem st_J10_newLength : Cond.static kJ10_newLength.y ∈ lw_all := q1245
theorem lk_J5_73 : xLk RJ5 73 yJ10_newLength := Or.inl q1244
theorem q1254 : (Jvm.Cond.methodLink "java/util/ArrayList" (66 : Nat) ({ cls := "java/util/Arrays", name := "copyOf", desc := "([Ljava/lang/Object;I)[Ljava/lang/Object;" } : Jvm.MethodName)) ∈ lw_all := lw_g (lw_at lw_m5 98 rfl) rfl
abbrev cJ12_copyOf : ByteArray := prog_59_method_119_code
def yJ12_copyOf : MethodName := ⟨RJ12, "copyOf", "([Ljava/lang/Object;I)[Ljava/lang/Object;"⟩
theorem q1256 : (Jvm.Cond.code ({ cls := "java/util/Arrays", name := "copyOf", desc := "([Ljava/lang/Object;I)[Ljava/lang/Object;" } : Jvm.MethodName) prog_59_method_119_code (2 : Nat) (Option.some (Jvm.ClassFile.FieldType.array (Jvm.ClassFile.FieldType.object "java/lang/Object")))) ∈ lw_all := lw_g (lw_at lw_m5 100 rfl) rfl
theorem q226 : (Jvm.Cond.initialized "java/util/Arrays") ∈ lw_all := lw_g (lw_at lw_m1 30 rfl) rfl
def kJ12_copyOf : xK := (yJ12_copyOf, cJ12_copyOf, 2, some (.array (.object "java/lang/Object")), [])
theorem me_J12_copyOf : xMe kJ12_copyOf 2 := ⟨q1256, q226, by decide, by decide, by decide +kernel⟩
theorem q1255 : (Jvm.Cond.static ({ cls := "java/util/Arrays", name := "copyOf", desc := "([Ljava/lang/Object;I)[Ljava/lang/Object;" } : Jvm.MethodName)) ∈ lw_all := lw_g (lw_at lw_m5 99 rfl) rfl
theorem st_J12_copyOf : Cond.static kJ12_copyOf.y ∈ lw_all := q1255
theorem lk_J5_66 : xLk RJ5 66 yJ12_copyOf := Or.inl q1254
theorem q1311 : (Jvm.Cond.methodLink "java/util/ArrayList" (79 : Nat) ({ cls := "java/lang/Math", name := "max", desc := "(II)I" } : Jvm.MethodName)) ∈ lw_all := lw_g (lw_at lw_m5 155 rfl) rfl
abbrev cJ11_max : ByteArray := prog_48_method_65_code
def yJ11_max : MethodName := ⟨RJ11, "max", "(II)I"⟩
theorem q1249 : (Jvm.Cond.code ({ cls := "java/lang/Math", name := "max", desc := "(II)I" } : Jvm.MethodName) prog_48_method_65_code (2 : Nat) (Option.some Jvm.ClassFile.FieldType.int)) ∈ lw_all := lw_g (lw_at lw_m5 93 rfl) rfl
theorem q225 : (Jvm.Cond.initialized "java/lang/Math") ∈ lw_all := lw_g (lw_at lw_m1 29 rfl) rfl
def kJ11_max : xK := (yJ11_max, cJ11_max, 2, some .int, [])
theorem me_J11_max : xMe kJ11_max 2 := ⟨q1249, q225, by decide, by decide, by decide +kernel⟩
theorem q1248 : (Jvm.Cond.static ({ cls := "java/lang/Math", name := "max", desc := "(II)I" } : Jvm.MethodName)) ∈ lw_all := lw_g (lw_at lw_m5 92 rfl) rfl
theorem st_J11_max : Cond.static kJ11_max.y ∈ lw_all := q1248
theorem lk_J5_79 : xLk RJ5 79 yJ11_max := Or.inl q1311
abbrev cJ5_get : ByteArray := prog_58_method_20_code
def yJ5_get : MethodName := ⟨RJ5, "get", "(I)Ljava/lang/Object;"⟩
theorem q1404 : (Jvm.Cond.code ({ cls := "java/util/ArrayList", name := "get", desc := "(I)Ljava/lang/Object;" } : Jvm.MethodName) prog_58_method_20_code (2 : Nat) (Option.some (Jvm.ClassFile.FieldType.object "java/lang/Object"))) ∈ lw_all := lw_g (lw_at lw_m6 8 rfl) rfl
def kJ5_get : xK := (yJ5_get, cJ5_get, 2, some (.object "java/lang/Object"), [])
theorem me_J5_get : xMe kJ5_get 1 := ⟨q1404, q208, by decide, by decide, by decide +kernel⟩
theorem q1402 : (Jvm.Cond.instanceMethod ({ cls := "java/util/ArrayList", name := "get", desc := "(I)Ljava/lang/Object;" } : Jvm.MethodName)) ∈ lw_all := lw_g (lw_at lw_m6 6 rfl) rfl
theorem is_J5_get : Cond.instanceMethod kJ5_get.y ∈ lw_all := q1402
theorem q1403 : (Jvm.Cond.selects "java/util/ArrayList" ({ cls := "java/util/ArrayList", name := "get", desc := "(I)Ljava/lang/Object;" } : Jvm.MethodName) ({ cls := "java/util/ArrayList", name := "get", desc := "(I)Ljava/lang/Object;" } : Jvm.MethodName)) ∈ lw_all := lw_g (lw_at lw_m6 7 rfl) rfl
theorem se_J5_get : Cond.selects RJ5 kJ5_get.y kJ5_get.y ∈ lw_all := q1403
theorem q1405 : (Jvm.Cond.methodLink "java/util/ArrayList" (118 : Nat) ({ cls := "java/util/Objects", name := "checkIndex", desc := "(II)I" } : Jvm.MethodName)) ∈ lw_all := lw_g (lw_at lw_m6 9 rfl) rfl
abbrev cJ13_checkIndex : ByteArray := prog_62_method_17_code
def yJ13_checkIndex : MethodName := ⟨RJ13, "checkIndex", "(II)I"⟩
theorem q1407 : (Jvm.Cond.code ({ cls := "java/util/Objects", name := "checkIndex", desc := "(II)I" } : Jvm.MethodName) prog_62_method_17_code (2 : Nat) (Option.some Jvm.ClassFile.FieldType.int)) ∈ lw_all := lw_g (lw_at lw_m6 11 rfl) rfl
theorem q233 : (Jvm.Cond.initialized "java/util/Objects") ∈ lw_all := lw_g (lw_at lw_m1 37 rfl) rfl
def kJ13_checkIndex : xK := (yJ13_checkIndex, cJ13_checkIndex, 2, some .int, [])
theorem me_J13_checkIndex : xMe kJ13_checkIndex 2 := ⟨q1407, q233, by decide, by decide, by decide +kernel⟩
theorem q1406 : (Jvm.Cond.static ({ cls := "java/util/Objects", name := "checkIndex", desc := "(II)I" } : Jvm.MethodName)) ∈ lw_all := lw_g (lw_at lw_m6 10 rfl) rfl
theorem st_J13_checkIndex : Cond.static kJ13_checkIndex.y ∈ lw_all := q1406
theorem lk_J5_118 : xLk RJ5 118 yJ13_checkIndex := Or.inl q1405
theorem q1409 : (Jvm.Cond.methodLink "java/util/ArrayList" (123 : Nat) ({ cls := "java/util/ArrayList", name := "elementData", desc := "(I)Ljava/lang/Object;" } : Jvm.MethodName)) ∈ lw_all := lw_g (lw_at lw_m6 13 rfl) rfl
abbrev cJ5_elementData : ByteArray := prog_58_method_18_code
def yJ5_elementData : MethodName := ⟨RJ5, "elementData", "(I)Ljava/lang/Object;"⟩
theorem q1412 : (Jvm.Cond.code ({ cls := "java/util/ArrayList", name := "elementData", desc := "(I)Ljava/lang/Object;" } : Jvm.MethodName) prog_58_method_18_code (2 : Nat) (Option.some (Jvm.ClassFile.FieldType.object "java/lang/Object"))) ∈ lw_all := lw_g (lw_at lw_m6 16 rfl) rfl
def kJ5_elementData : xK := (yJ5_elementData, cJ5_elementData, 2, some (.object "java/lang/Object"), [])
theorem me_J5_elementData : xMe kJ5_elementData 1 := ⟨q1412, q208, by decide, by decide, by decide +kernel⟩
theorem q1410 : (Jvm.Cond.instanceMethod ({ cls := "java/util/ArrayList", name := "elementData", desc := "(I)Ljava/lang/Object;" } : Jvm.MethodName)) ∈ lw_all := lw_g (lw_at lw_m6 14 rfl) rfl
theorem is_J5_elementData : Cond.instanceMethod kJ5_elementData.y ∈ lw_all := q1410
theorem q1411 : (Jvm.Cond.selects "java/util/ArrayList" ({ cls := "java/util/ArrayList", name := "elementData", desc := "(I)Ljava/lang/Object;" } : Jvm.MethodName) ({ cls := "java/util/ArrayList", name := "elementData", desc := "(I)Ljava/lang/Object;" } : Jvm.MethodName)) ∈ lw_all := lw_g (lw_at lw_m6 15 rfl) rfl
theorem se_J5_elementData : Cond.selects RJ5 kJ5_elementData.y kJ5_elementData.y ∈ lw_all := q1411
theorem lk_J5_123 : xLk RJ5 123 yJ5_elementData := Or.inl q1409
abbrev cJ5_size : ByteArray := prog_58_method_8_code
def yJ5_size : MethodName := ⟨RJ5, "size", "()I"⟩
theorem q1686 : (Jvm.Cond.code ({ cls := "java/util/ArrayList", name := "size", desc := "()I" } : Jvm.MethodName) prog_58_method_8_code (1 : Nat) (Option.some Jvm.ClassFile.FieldType.int)) ∈ lw_all := lw_g (lw_at lw_m7 50 rfl) rfl
def kJ5_size : xK := (yJ5_size, cJ5_size, 1, some .int, [])
theorem me_J5_size : xMe kJ5_size 0 := ⟨q1686, q208, by decide, by decide, by decide +kernel⟩
theorem q1684 : (Jvm.Cond.instanceMethod ({ cls := "java/util/ArrayList", name := "size", desc := "()I" } : Jvm.MethodName)) ∈ lw_all := lw_g (lw_at lw_m7 48 rfl) rfl
theorem is_J5_size : Cond.instanceMethod kJ5_size.y ∈ lw_all := q1684
theorem q1685 : (Jvm.Cond.selects "java/util/ArrayList" ({ cls := "java/util/ArrayList", name := "size", desc := "()I" } : Jvm.MethodName) ({ cls := "java/util/ArrayList", name := "size", desc := "()I" } : Jvm.MethodName)) ∈ lw_all := lw_g (lw_at lw_m7 49 rfl) rfl
theorem se_J5_size : Cond.selects RJ5 kJ5_size.y kJ5_size.y ∈ lw_all := q1685
abbrev cJ5_remove : ByteArray := prog_58_method_29_code
def yJ5_remove : MethodName := ⟨RJ5, "remove", "(I)Ljava/lang/Object;"⟩
theorem q2228 : (Jvm.Cond.code ({ cls := "java/util/ArrayList", name := "remove", desc := "(I)Ljava/lang/Object;" } : Jvm.MethodName) prog_58_method_29_code (4 : Nat) (Option.some (Jvm.ClassFile.FieldType.object "java/lang/Object"))) ∈ lw_all := lw_g (lw_at lw_m9 112 rfl) rfl
def kJ5_remove : xK := (yJ5_remove, cJ5_remove, 4, some (.object "java/lang/Object"), [])
theorem me_J5_remove : xMe kJ5_remove 1 := ⟨q2228, q208, by decide, by decide, by decide +kernel⟩
theorem q2226 : (Jvm.Cond.instanceMethod ({ cls := "java/util/ArrayList", name := "remove", desc := "(I)Ljava/lang/Object;" } : Jvm.MethodName)) ∈ lw_all := lw_g (lw_at lw_m9 110 rfl) rfl
theorem is_J5_remove : Cond.instanceMethod kJ5_remove.y ∈ lw_all := q2226
theorem q2227 : (Jvm.Cond.selects "java/util/ArrayList" ({ cls := "java/util/ArrayList", name := "remove", desc := "(I)Ljava/lang/Object;" } : Jvm.MethodName) ({ cls := "java/util/ArrayList", name := "remove", desc := "(I)Ljava/lang/Object;" } : Jvm.MethodName)) ∈ lw_all := lw_g (lw_at lw_m9 111 rfl) rfl
theorem se_J5_remove : Cond.selects RJ5 kJ5_remove.y kJ5_remove.y ∈ lw_all := q2227
theorem q2229 : (Jvm.Cond.methodLink "java/util/ArrayList" (144 : Nat) ({ cls := "java/util/ArrayList", name := "fastRemove", desc := "([Ljava/lang/Object;I)V" } : Jvm.MethodName)) ∈ lw_all := lw_g (lw_at lw_m9 113 rfl) rfl
abbrev cJ5_fastRemove : ByteArray := prog_58_method_39_code
def yJ5_fastRemove : MethodName := ⟨RJ5, "fastRemove", "([Ljava/lang/Object;I)V"⟩
theorem q2232 : (Jvm.Cond.code ({ cls := "java/util/ArrayList", name := "fastRemove", desc := "([Ljava/lang/Object;I)V" } : Jvm.MethodName) prog_58_method_39_code (4 : Nat) (Option.none : Option Jvm.ClassFile.FieldType)) ∈ lw_all := lw_g (lw_at lw_m9 116 rfl) rfl
def kJ5_fastRemove : xK := (yJ5_fastRemove, cJ5_fastRemove, 4, none, [])
theorem me_J5_fastRemove : xMe kJ5_fastRemove 2 := ⟨q2232, q208, by decide, by decide, by decide +kernel⟩
theorem q2231 : (Jvm.Cond.instanceMethod ({ cls := "java/util/ArrayList", name := "fastRemove", desc := "([Ljava/lang/Object;I)V" } : Jvm.MethodName)) ∈ lw_all := lw_g (lw_at lw_m9 115 rfl) rfl
theorem is_J5_fastRemove : Cond.instanceMethod kJ5_fastRemove.y ∈ lw_all := q2231
theorem se_J5_fastRemove : Cond.selects RJ5 kJ5_fastRemove.y kJ5_fastRemove.y ∈ lw_all := qs47
theorem lk_J5_144 : xLk RJ5 144 yJ5_fastRemove := Or.inl q2229
theorem q2233 : (Jvm.Cond.methodLink "java/util/ArrayList" (112 : Nat) ({ cls := "java/lang/System", name := "arraycopy", desc := "(Ljava/lang/Object;ILjava/lang/Object;II)V" } : Jvm.MethodName)) ∈ lw_all := lw_g (lw_at lw_m9 117 rfl) rfl
abbrev cJ5_isEmpty : ByteArray := prog_58_method_9_code
def yJ5_isEmpty : MethodName := ⟨RJ5, "isEmpty", "()Z"⟩
theorem q2461 : (Jvm.Cond.code ({ cls := "java/util/ArrayList", name := "isEmpty", desc := "()Z" } : Jvm.MethodName) prog_58_method_9_code (1 : Nat) (Option.some Jvm.ClassFile.FieldType.boolean)) ∈ lw_all := lw_g (lw_at lw_m10 105 rfl) rfl
def kJ5_isEmpty : xK := (yJ5_isEmpty, cJ5_isEmpty, 1, some .boolean, [])
theorem me_J5_isEmpty : xMe kJ5_isEmpty 0 := ⟨q2461, q208, by decide, by decide, by decide +kernel⟩
theorem q2459 : (Jvm.Cond.instanceMethod ({ cls := "java/util/ArrayList", name := "isEmpty", desc := "()Z" } : Jvm.MethodName)) ∈ lw_all := lw_g (lw_at lw_m10 103 rfl) rfl
theorem is_J5_isEmpty : Cond.instanceMethod kJ5_isEmpty.y ∈ lw_all := q2459
theorem q2460 : (Jvm.Cond.selects "java/util/ArrayList" ({ cls := "java/util/ArrayList", name := "isEmpty", desc := "()Z" } : Jvm.MethodName) ({ cls := "java/util/ArrayList", name := "isEmpty", desc := "()Z" } : Jvm.MethodName)) ∈ lw_all := lw_g (lw_at lw_m10 104 rfl) rfl
theorem se_J5_isEmpty : Cond.selects RJ5 kJ5_isEmpty.y kJ5_isEmpty.y ∈ lw_all := q2460
abbrev cJ5_set : ByteArray := prog_58_method_23_code
def yJ5_set : MethodName := ⟨RJ5, "set", "(ILjava/lang/Object;)Ljava/lang/Object;"⟩
theorem q2474 : (Jvm.Cond.code ({ cls := "java/util/ArrayList", name := "set", desc := "(ILjava/lang/Object;)Ljava/lang/Object;" } : Jvm.MethodName) prog_58_method_23_code (4 : Nat) (Option.some (Jvm.ClassFile.FieldType.object "java/lang/Object"))) ∈ lw_all := lw_g (lw_at lw_m10 118 rfl) rfl
def kJ5_set : xK := (yJ5_set, cJ5_set, 4, some (.object "java/lang/Object"), [])
theorem me_J5_set : xMe kJ5_set 2 := ⟨q2474, q208, by decide, by decide, by decide +kernel⟩
theorem q2472 : (Jvm.Cond.instanceMethod ({ cls := "java/util/ArrayList", name := "set", desc := "(ILjava/lang/Object;)Ljava/lang/Object;" } : Jvm.MethodName)) ∈ lw_all := lw_g (lw_at lw_m10 116 rfl) rfl
theorem is_J5_set : Cond.instanceMethod kJ5_set.y ∈ lw_all := q2472
theorem q2473 : (Jvm.Cond.selects "java/util/ArrayList" ({ cls := "java/util/ArrayList", name := "set", desc := "(ILjava/lang/Object;)Ljava/lang/Object;" } : Jvm.MethodName) ({ cls := "java/util/ArrayList", name := "set", desc := "(ILjava/lang/Object;)Ljava/lang/Object;" } : Jvm.MethodName)) ∈ lw_all := lw_g (lw_at lw_m10 117 rfl) rfl
theorem se_J5_set : Cond.selects RJ5 kJ5_set.y kJ5_set.y ∈ lw_all := q2473
theorem q461 : (Jvm.Cond.methodLink "java/util/AbstractList" (1 : Nat) ({ cls := "java/util/AbstractCollection", name := "<init>", desc := "()V" } : Jvm.MethodName)) ∈ lw_all := lw_g (lw_at lw_m2 25 rfl) rfl
abbrev cJ3_init : ByteArray := prog_56_method_1_code
def yJ3_init : MethodName := ⟨RJ3, "<init>", "()V"⟩
theorem q463 : (Jvm.Cond.code ({ cls := "java/util/AbstractCollection", name := "<init>", desc := "()V" } : Jvm.MethodName) prog_56_method_1_code (1 : Nat) (Option.none : Option Jvm.ClassFile.FieldType)) ∈ lw_all := lw_g (lw_at lw_m2 27 rfl) rfl
theorem q206 : (Jvm.Cond.initialized "java/util/AbstractCollection") ∈ lw_all := lw_g (lw_at lw_m1 10 rfl) rfl
def kJ3_init : xK := (yJ3_init, cJ3_init, 1, none, [])
theorem me_J3_init : xMe kJ3_init 0 := ⟨q463, q206, by decide, by decide, by decide +kernel⟩
theorem q462 : (Jvm.Cond.instanceMethod ({ cls := "java/util/AbstractCollection", name := "<init>", desc := "()V" } : Jvm.MethodName)) ∈ lw_all := lw_g (lw_at lw_m2 26 rfl) rfl
theorem is_J3_init : Cond.instanceMethod kJ3_init.y ∈ lw_all := q462
theorem lk_J4_1 : xLk RJ4 1 yJ3_init := Or.inl q461
theorem q469 : (Jvm.Cond.fieldLink "java/util/AbstractList" (7 : Nat) "java/util/AbstractList" "modCount" "I") ∈ lw_all := lw_g (lw_at lw_m2 33 rfl) rfl
theorem f_J4_7_36 : xF RJ4 7 36 0 := ⟨_, "java/util/AbstractList", rfl, by decide, Or.inl q469, Or.inl rfl⟩
theorem q464 : (Jvm.Cond.methodLink "java/util/AbstractCollection" (1 : Nat) ({ cls := "java/lang/Object", name := "<init>", desc := "()V" } : Jvm.MethodName)) ∈ lw_all := lw_g (lw_at lw_m2 28 rfl) rfl
abbrev cJ18_init : ByteArray := object_method_1_code
def yJ18_init : MethodName := ⟨RJ18, "<init>", "()V"⟩
theorem q262 : (Jvm.Cond.code ({ cls := "java/lang/Object", name := "<init>", desc := "()V" } : Jvm.MethodName) object_method_1_code (1 : Nat) (Option.none : Option Jvm.ClassFile.FieldType)) ∈ lw_all := lw_g (lw_at lw_m1 66 rfl) rfl
def kJ18_init : xK := (yJ18_init, cJ18_init, 1, none, [])
theorem q261 : (Jvm.Cond.instanceMethod ({ cls := "java/lang/Object", name := "<init>", desc := "()V" } : Jvm.MethodName)) ∈ lw_all := lw_g (lw_at lw_m1 65 rfl) rfl
theorem is_J18_init : Cond.instanceMethod kJ18_init.y ∈ lw_all := q261
theorem lk_J3_1 : xLk RJ3 1 yJ18_init := Or.inl q464
theorem q1408 : (Jvm.Cond.methodLink "java/util/Objects" (105 : Nat) ({ cls := "jdk/internal/util/Preconditions", name := "checkIndex", desc := "(IILjava/util/function/BiFunction;)I" } : Jvm.MethodName)) ∈ lw_all := lw_g (lw_at lw_m6 12 rfl) rfl
abbrev cJ8_checkIndex : ByteArray := prog_66_method_11_code
def yJ8_checkIndex : MethodName := ⟨RJ8, "checkIndex", "(IILjava/util/function/BiFunction;)I"⟩
theorem q1034 : (Jvm.Cond.code ({ cls := "jdk/internal/util/Preconditions", name := "checkIndex", desc := "(IILjava/util/function/BiFunction;)I" } : Jvm.MethodName) prog_66_method_11_code (3 : Nat) (Option.some Jvm.ClassFile.FieldType.int)) ∈ lw_all := lw_g (lw_at lw_m4 118 rfl) rfl
theorem q219 : (Jvm.Cond.initialized "jdk/internal/util/Preconditions") ∈ lw_all := lw_g (lw_at lw_m1 23 rfl) rfl
def kJ8_checkIndex : xK := (yJ8_checkIndex, cJ8_checkIndex, 3, some .int, [])
theorem me_J8_checkIndex : xMe kJ8_checkIndex 3 := ⟨q1034, q219, by decide, by decide, by decide +kernel⟩
theorem q1033 : (Jvm.Cond.static ({ cls := "jdk/internal/util/Preconditions", name := "checkIndex", desc := "(IILjava/util/function/BiFunction;)I" } : Jvm.MethodName)) ∈ lw_all := lw_g (lw_at lw_m4 117 rfl) rfl
theorem st_J8_checkIndex : Cond.static kJ8_checkIndex.y ∈ lw_all := q1033
theorem lk_J13_105 : xLk RJ13 105 yJ8_checkIndex := Or.inl q1408
theorem q1247 : (Jvm.Cond.methodLink "jdk/internal/util/ArraysSupport" (194 : Nat) ({ cls := "java/lang/Math", name := "max", desc := "(II)I" } : Jvm.MethodName)) ∈ lw_all := lw_g (lw_at lw_m5 91 rfl) rfl
theorem lk_J10_194 : xLk RJ10 194 yJ11_max := Or.inl q1247
theorem q1250 : (Jvm.Cond.constant "jdk/internal/util/ArraysSupport" (200 : Nat) (2147483639 : Int32)) ∈ lw_all := lw_g (lw_at lw_m5 94 rfl) rfl
theorem q1251 : (Jvm.Cond.methodLink "jdk/internal/util/ArraysSupport" (201 : Nat) ({ cls := "jdk/internal/util/ArraysSupport", name := "hugeLength", desc := "(II)I" } : Jvm.MethodName)) ∈ lw_all := lw_g (lw_at lw_m5 95 rfl) rfl
abbrev cJ10_hugeLength : ByteArray := prog_65_method_28_code
def yJ10_hugeLength : MethodName := ⟨RJ10, "hugeLength", "(II)I"⟩
theorem q1253 : (Jvm.Cond.code ({ cls := "jdk/internal/util/ArraysSupport", name := "hugeLength", desc := "(II)I" } : Jvm.MethodName) prog_65_method_28_code (3 : Nat) (Option.some Jvm.ClassFile.FieldType.int)) ∈ lw_all := lw_g (lw_at lw_m5 97 rfl) rfl
def kJ10_hugeLength : xK := (yJ10_hugeLength, cJ10_hugeLength, 3, some .int, [])
theorem me_J10_hugeLength : xMe kJ10_hugeLength 2 := ⟨q1253, q224, by decide, by decide, by decide +kernel⟩
theorem q1252 : (Jvm.Cond.static ({ cls := "jdk/internal/util/ArraysSupport", name := "hugeLength", desc := "(II)I" } : Jvm.MethodName)) ∈ lw_all := lw_g (lw_at lw_m5 96 rfl) rfl
theorem st_J10_hugeLength : Cond.static kJ10_hugeLength.y ∈ lw_all := q1252
theorem lk_J10_201 : xLk RJ10 201 yJ10_hugeLength := Or.inl q1251
abbrev cJ11_min : ByteArray := prog_48_method_69_code
def yJ11_min : MethodName := ⟨RJ11, "min", "(II)I"⟩
theorem q1307 : (Jvm.Cond.code ({ cls := "java/lang/Math", name := "min", desc := "(II)I" } : Jvm.MethodName) prog_48_method_69_code (2 : Nat) (Option.some Jvm.ClassFile.FieldType.int)) ∈ lw_all := lw_g (lw_at lw_m5 151 rfl) rfl
def kJ11_min : xK := (yJ11_min, cJ11_min, 2, some .int, [])
theorem me_J11_min : xMe kJ11_min 2 := ⟨q1307, q225, by decide, by decide, by decide +kernel⟩
theorem q1306 : (Jvm.Cond.static ({ cls := "java/lang/Math", name := "min", desc := "(II)I" } : Jvm.MethodName)) ∈ lw_all := lw_g (lw_at lw_m5 150 rfl) rfl
theorem st_J11_min : Cond.static kJ11_min.y ∈ lw_all := q1306
theorem q1257 : (Jvm.Cond.methodLink "java/util/Arrays" (86 : Nat) ({ cls := "java/lang/Object", name := "getClass", desc := "()Ljava/lang/Class;" } : Jvm.MethodName)) ∈ lw_all := lw_g (lw_at lw_m5 101 rfl) rfl
theorem q1300 : (Jvm.Cond.methodLink "java/util/Arrays" (300 : Nat) ({ cls := "java/util/Arrays", name := "copyOf", desc := "([Ljava/lang/Object;ILjava/lang/Class;)[Ljava/lang/Object;" } : Jvm.MethodName)) ∈ lw_all := lw_g (lw_at lw_m5 144 rfl) rfl
abbrev cJ12_copyOf_2 : ByteArray := prog_59_method_120_code
def yJ12_copyOf_2 : MethodName := ⟨RJ12, "copyOf", "([Ljava/lang/Object;ILjava/lang/Class;)[Ljava/lang/Object;"⟩
theorem q1302 : (Jvm.Cond.code ({ cls := "java/util/Arrays", name := "copyOf", desc := "([Ljava/lang/Object;ILjava/lang/Class;)[Ljava/lang/Object;" } : Jvm.MethodName) prog_59_method_120_code (4 : Nat) (Option.some (Jvm.ClassFile.FieldType.array (Jvm.ClassFile.FieldType.object "java/lang/Object")))) ∈ lw_all := lw_g (lw_at lw_m5 146 rfl) rfl
def kJ12_copyOf_2 : xK := (yJ12_copyOf_2, cJ12_copyOf_2, 4, some (.array (.object "java/lang/Object")), [])
theorem me_J12_copyOf_2 : xMe kJ12_copyOf_2 3 := ⟨q1302, q226, by decide, by decide, by decide +kernel⟩
theorem q1301 : (Jvm.Cond.static ({ cls := "java/util/Arrays", name := "copyOf", desc := "([Ljava/lang/Object;ILjava/lang/Class;)[Ljava/lang/Object;" } : Jvm.MethodName)) ∈ lw_all := lw_g (lw_at lw_m5 145 rfl) rfl
theorem st_J12_copyOf_2 : Cond.static kJ12_copyOf_2.y ∈ lw_all := q1301
theorem lk_J12_300 : xLk RJ12 300 yJ12_copyOf_2 := Or.inl q1300
theorem q1303 : (Jvm.Cond.classLink "java/util/Arrays" (110 : Nat) "[Ljava/lang/Object;") ∈ lw_all := lw_g (lw_at lw_m5 147 rfl) rfl
theorem q1304 : (Jvm.Cond.classLink "java/util/Arrays" (2 : Nat) "java/lang/Object") ∈ lw_all := lw_g (lw_at lw_m5 148 rfl) rfl
theorem q1305 : (Jvm.Cond.methodLink "java/util/Arrays" (304 : Nat) ({ cls := "java/lang/Math", name := "min", desc := "(II)I" } : Jvm.MethodName)) ∈ lw_all := lw_g (lw_at lw_m5 149 rfl) rfl
theorem lk_J12_304 : xLk RJ12 304 yJ11_min := Or.inl q1305
theorem q1308 : (Jvm.Cond.methodLink "java/util/Arrays" (150 : Nat) ({ cls := "java/lang/System", name := "arraycopy", desc := "(Ljava/lang/Object;ILjava/lang/Object;II)V" } : Jvm.MethodName)) ∈ lw_all := lw_g (lw_at lw_m5 152 rfl) rfl
theorem dJ5_init_0 : decode cJ5_init 0 = .ok (.aload_n 0, 1) := by decide +kernel
theorem dJ5_init_1 : decode cJ5_init 1 = .ok (.invokespecial 1, 3) := by decide +kernel
theorem dJ5_init_4 : decode cJ5_init 4 = .ok (.aload_n 0, 1) := by decide +kernel
theorem dJ5_init_5 : decode cJ5_init 5 = .ok (.getstatic 39, 3) := by decide +kernel
theorem dJ5_init_8 : decode cJ5_init 8 = .ok (.putfield 9, 3) := by decide +kernel
theorem dJ5_init_11 : decode cJ5_init 11 = .ok (.return_, 1) := by decide +kernel
theorem dJ5_clear_0 : decode cJ5_clear 0 = .ok (.aload_n 0, 1) := by decide +kernel
theorem dJ5_clear_1 : decode cJ5_clear 1 = .ok (.dup, 1) := by decide +kernel
theorem dJ5_clear_2 : decode cJ5_clear 2 = .ok (.getfield 63, 3) := by decide +kernel
theorem dJ5_clear_5 : decode cJ5_clear 5 = .ok (.iconst 1, 1) := by decide +kernel
theorem dJ5_clear_6 : decode cJ5_clear 6 = .ok (.iadd, 1) := by decide +kernel
theorem dJ5_clear_7 : decode cJ5_clear 7 = .ok (.putfield 63, 3) := by decide +kernel
theorem dJ5_clear_10 : decode cJ5_clear 10 = .ok (.aload_n 0, 1) := by decide +kernel
theorem dJ5_clear_11 : decode cJ5_clear 11 = .ok (.getfield 9, 3) := by decide +kernel
theorem dJ5_clear_14 : decode cJ5_clear 14 = .ok (.astore_n 1, 1) := by decide +kernel
theorem dJ5_clear_15 : decode cJ5_clear 15 = .ok (.aload_n 0, 1) := by decide +kernel
theorem dJ5_clear_16 : decode cJ5_clear 16 = .ok (.getfield 48, 3) := by decide +kernel
theorem dJ5_clear_19 : decode cJ5_clear 19 = .ok (.istore_n 2, 1) := by decide +kernel
theorem dJ5_clear_20 : decode cJ5_clear 20 = .ok (.aload_n 0, 1) := by decide +kernel
theorem dJ5_clear_21 : decode cJ5_clear 21 = .ok (.iconst 0, 1) := by decide +kernel
theorem dJ5_clear_22 : decode cJ5_clear 22 = .ok (.dup_x1, 1) := by decide +kernel
theorem dJ5_clear_23 : decode cJ5_clear 23 = .ok (.putfield 48, 3) := by decide +kernel
theorem dJ5_clear_26 : decode cJ5_clear 26 = .ok (.istore_n 3, 1) := by decide +kernel
theorem dJ5_clear_27 : decode cJ5_clear 27 = .ok (.iload_n 3, 1) := by decide +kernel
theorem dJ5_clear_28 : decode cJ5_clear 28 = .ok (.iload_n 2, 1) := by decide +kernel
theorem dJ5_clear_29 : decode cJ5_clear 29 = .ok (.if_icmp .ge 13, 3) := by decide +kernel
theorem dJ5_clear_32 : decode cJ5_clear 32 = .ok (.aload_n 1, 1) := by decide +kernel
theorem dJ5_clear_33 : decode cJ5_clear 33 = .ok (.iload_n 3, 1) := by decide +kernel
theorem dJ5_clear_34 : decode cJ5_clear 34 = .ok (.aconst_null, 1) := by decide +kernel
theorem dJ5_clear_35 : decode cJ5_clear 35 = .ok (.aastore, 1) := by decide +kernel
theorem dJ5_clear_36 : decode cJ5_clear 36 = .ok (.iinc 3 1, 3) := by decide +kernel
theorem dJ5_clear_39 : decode cJ5_clear 39 = .ok (.goto (-12), 3) := by decide +kernel
theorem dJ5_clear_42 : decode cJ5_clear 42 = .ok (.return_, 1) := by decide +kernel
theorem dJ5_init_2_0 : decode cJ5_init_2 0 = .ok (.aload_n 0, 1) := by decide +kernel
theorem dJ5_init_2_1 : decode cJ5_init_2 1 = .ok (.invokespecial 1, 3) := by decide +kernel
theorem dJ5_init_2_4 : decode cJ5_init_2 4 = .ok (.iload_n 1, 1) := by decide +kernel
theorem dJ5_init_2_5 : decode cJ5_init_2 5 = .ok (.ifCond .le 14, 3) := by decide +kernel
theorem dJ5_init_2_8 : decode cJ5_init_2 8 = .ok (.aload_n 0, 1) := by decide +kernel
theorem dJ5_init_2_9 : decode cJ5_init_2 9 = .ok (.iload_n 1, 1) := by decide +kernel
theorem dJ5_init_2_10 : decode cJ5_init_2 10 = .ok (.anewarray 7, 3) := by decide +kernel
theorem dJ5_init_2_13 : decode cJ5_init_2 13 = .ok (.putfield 9, 3) := by decide +kernel
theorem dJ5_init_2_16 : decode cJ5_init_2 16 = .ok (.goto 44, 3) := by decide +kernel
theorem dJ5_init_2_19 : decode cJ5_init_2 19 = .ok (.iload_n 1, 1) := by decide +kernel
theorem dJ5_init_2_20 : decode cJ5_init_2 20 = .ok (.ifCond .ne 13, 3) := by decide +kernel
theorem dJ5_init_2_23 : decode cJ5_init_2 23 = .ok (.aload_n 0, 1) := by decide +kernel
theorem dJ5_init_2_24 : decode cJ5_init_2 24 = .ok (.getstatic 15, 3) := by decide +kernel
theorem dJ5_init_2_27 : decode cJ5_init_2 27 = .ok (.putfield 9, 3) := by decide +kernel
theorem dJ5_init_2_30 : decode cJ5_init_2 30 = .ok (.goto 30, 3) := by decide +kernel
theorem dJ5_init_2_33 : decode cJ5_init_2 33 = .ok (.new 18, 3) := by decide +kernel
theorem dJ5_init_2_36 : decode cJ5_init_2 36 = .ok (.dup, 1) := by decide +kernel
theorem dJ5_init_2_37 : decode cJ5_init_2 37 = .ok (.new 20, 3) := by decide +kernel
theorem dJ5_init_2_40 : decode cJ5_init_2 40 = .ok (.dup, 1) := by decide +kernel
theorem dJ5_init_2_41 : decode cJ5_init_2 41 = .ok (.invokespecial 22, 3) := by decide +kernel
theorem dJ5_init_2_44 : decode cJ5_init_2 44 = .ok (.ldc 23, 2) := by decide +kernel
theorem dJ5_init_2_46 : decode cJ5_init_2 46 = .ok (.invokevirtual 25, 3) := by decide +kernel
theorem dJ5_init_2_49 : decode cJ5_init_2 49 = .ok (.iload_n 1, 1) := by decide +kernel
theorem dJ5_init_2_50 : decode cJ5_init_2 50 = .ok (.invokevirtual 29, 3) := by decide +kernel
theorem dJ5_init_2_53 : decode cJ5_init_2 53 = .ok (.invokevirtual 32, 3) := by decide +kernel
theorem dJ5_init_2_56 : decode cJ5_init_2 56 = .ok (.invokespecial 36, 3) := by decide +kernel
theorem dJ5_init_2_59 : decode cJ5_init_2 59 = .ok (.athrow, 1) := by decide +kernel
theorem dJ5_init_2_60 : decode cJ5_init_2 60 = .ok (.return_, 1) := by decide +kernel
theorem dJ5_add_0 : decode cJ5_add 0 = .ok (.aload_n 0, 1) := by decide +kernel
theorem dJ5_add_1 : decode cJ5_add 1 = .ok (.dup, 1) := by decide +kernel
theorem dJ5_add_2 : decode cJ5_add 2 = .ok (.getfield 63, 3) := by decide +kernel
theorem dJ5_add_5 : decode cJ5_add 5 = .ok (.iconst 1, 1) := by decide +kernel
theorem dJ5_add_6 : decode cJ5_add 6 = .ok (.iadd, 1) := by decide +kernel
theorem dJ5_add_7 : decode cJ5_add 7 = .ok (.putfield 63, 3) := by decide +kernel
theorem dJ5_add_10 : decode cJ5_add 10 = .ok (.aload_n 0, 1) := by decide +kernel
theorem dJ5_add_11 : decode cJ5_add 11 = .ok (.aload_n 1, 1) := by decide +kernel
theorem dJ5_add_12 : decode cJ5_add 12 = .ok (.aload_n 0, 1) := by decide +kernel
theorem dJ5_add_13 : decode cJ5_add 13 = .ok (.getfield 9, 3) := by decide +kernel
theorem dJ5_add_16 : decode cJ5_add 16 = .ok (.aload_n 0, 1) := by decide +kernel
theorem dJ5_add_17 : decode cJ5_add 17 = .ok (.getfield 48, 3) := by decide +kernel
theorem dJ5_add_20 : decode cJ5_add 20 = .ok (.invokevirtual 131, 3) := by decide +kernel
theorem dJ5_add_23 : decode cJ5_add 23 = .ok (.iconst 1, 1) := by decide +kernel
theorem dJ5_add_24 : decode cJ5_add 24 = .ok (.ireturn, 1) := by decide +kernel
theorem dJ5_add_2_0 : decode cJ5_add_2 0 = .ok (.iload_n 3, 1) := by decide +kernel
theorem dJ5_add_2_1 : decode cJ5_add_2 1 = .ok (.aload_n 2, 1) := by decide +kernel
theorem dJ5_add_2_2 : decode cJ5_add_2 2 = .ok (.arraylength, 1) := by decide +kernel
theorem dJ5_add_2_3 : decode cJ5_add_2 3 = .ok (.if_icmp .ne 8, 3) := by decide +kernel
theorem dJ5_add_2_6 : decode cJ5_add_2 6 = .ok (.aload_n 0, 1) := by decide +kernel
theorem dJ5_add_2_7 : decode cJ5_add_2 7 = .ok (.invokevirtual 129, 3) := by decide +kernel
theorem dJ5_add_2_10 : decode cJ5_add_2 10 = .ok (.astore_n 2, 1) := by decide +kernel
theorem dJ5_add_2_11 : decode cJ5_add_2 11 = .ok (.aload_n 2, 1) := by decide +kernel
theorem dJ5_add_2_12 : decode cJ5_add_2 12 = .ok (.iload_n 3, 1) := by decide +kernel
theorem dJ5_add_2_13 : decode cJ5_add_2 13 = .ok (.aload_n 1, 1) := by decide +kernel
theorem dJ5_add_2_14 : decode cJ5_add_2 14 = .ok (.aastore, 1) := by decide +kernel
theorem dJ5_add_2_15 : decode cJ5_add_2 15 = .ok (.aload_n 0, 1) := by decide +kernel
theorem dJ5_add_2_16 : decode cJ5_add_2 16 = .ok (.iload_n 3, 1) := by decide +kernel
theorem dJ5_add_2_17 : decode cJ5_add_2 17 = .ok (.iconst 1, 1) := by decide +kernel
theorem dJ5_add_2_18 : decode cJ5_add_2 18 = .ok (.iadd, 1) := by decide +kernel
theorem dJ5_add_2_19 : decode cJ5_add_2 19 = .ok (.putfield 48, 3) := by decide +kernel
theorem dJ5_add_2_22 : decode cJ5_add_2 22 = .ok (.return_, 1) := by decide +kernel
theorem dJ5_grow_0 : decode cJ5_grow 0 = .ok (.aload_n 0, 1) := by decide +kernel
theorem dJ5_grow_1 : decode cJ5_grow 1 = .ok (.aload_n 0, 1) := by decide +kernel
theorem dJ5_grow_2 : decode cJ5_grow 2 = .ok (.getfield 48, 3) := by decide +kernel
theorem dJ5_grow_5 : decode cJ5_grow 5 = .ok (.iconst 1, 1) := by decide +kernel
theorem dJ5_grow_6 : decode cJ5_grow 6 = .ok (.iadd, 1) := by decide +kernel
theorem dJ5_grow_7 : decode cJ5_grow 7 = .ok (.invokevirtual 69, 3) := by decide +kernel
theorem dJ5_grow_10 : decode cJ5_grow 10 = .ok (.areturn, 1) := by decide +kernel
theorem dJ5_grow_2_0 : decode cJ5_grow_2 0 = .ok (.aload_n 0, 1) := by decide +kernel
theorem dJ5_grow_2_1 : decode cJ5_grow_2 1 = .ok (.getfield 9, 3) := by decide +kernel
theorem dJ5_grow_2_4 : decode cJ5_grow_2 4 = .ok (.arraylength, 1) := by decide +kernel
theorem dJ5_grow_2_5 : decode cJ5_grow_2 5 = .ok (.istore_n 2, 1) := by decide +kernel
theorem dJ5_grow_2_6 : decode cJ5_grow_2 6 = .ok (.iload_n 2, 1) := by decide +kernel
theorem dJ5_grow_2_7 : decode cJ5_grow_2 7 = .ok (.ifCond .gt 13, 3) := by decide +kernel
theorem dJ5_grow_2_10 : decode cJ5_grow_2 10 = .ok (.aload_n 0, 1) := by decide +kernel
theorem dJ5_grow_2_11 : decode cJ5_grow_2 11 = .ok (.getfield 9, 3) := by decide +kernel
theorem dJ5_grow_2_14 : decode cJ5_grow_2 14 = .ok (.getstatic 39, 3) := by decide +kernel
theorem dJ5_grow_2_17 : decode cJ5_grow_2 17 = .ok (.if_acmp .eq 28, 3) := by decide +kernel
theorem dJ5_grow_2_20 : decode cJ5_grow_2 20 = .ok (.iload_n 2, 1) := by decide +kernel
theorem dJ5_grow_2_21 : decode cJ5_grow_2 21 = .ok (.iload_n 1, 1) := by decide +kernel
theorem dJ5_grow_2_22 : decode cJ5_grow_2 22 = .ok (.iload_n 2, 1) := by decide +kernel
theorem dJ5_grow_2_23 : decode cJ5_grow_2 23 = .ok (.isub, 1) := by decide +kernel
theorem dJ5_grow_2_24 : decode cJ5_grow_2 24 = .ok (.iload_n 2, 1) := by decide +kernel
theorem dJ5_grow_2_25 : decode cJ5_grow_2 25 = .ok (.iconst 1, 1) := by decide +kernel
theorem dJ5_grow_2_26 : decode cJ5_grow_2 26 = .ok (.ishr, 1) := by decide +kernel
theorem dJ5_grow_2_27 : decode cJ5_grow_2 27 = .ok (.invokestatic 73, 3) := by decide +kernel
theorem dJ5_grow_2_30 : decode cJ5_grow_2 30 = .ok (.istore_n 3, 1) := by decide +kernel
theorem dJ5_grow_2_31 : decode cJ5_grow_2 31 = .ok (.aload_n 0, 1) := by decide +kernel
theorem dJ5_grow_2_32 : decode cJ5_grow_2 32 = .ok (.aload_n 0, 1) := by decide +kernel
theorem dJ5_grow_2_33 : decode cJ5_grow_2 33 = .ok (.getfield 9, 3) := by decide +kernel
theorem dJ5_grow_2_36 : decode cJ5_grow_2 36 = .ok (.iload_n 3, 1) := by decide +kernel
theorem dJ5_grow_2_37 : decode cJ5_grow_2 37 = .ok (.invokestatic 66, 3) := by decide +kernel
theorem dJ5_grow_2_40 : decode cJ5_grow_2 40 = .ok (.dup_x1, 1) := by decide +kernel
theorem dJ5_grow_2_41 : decode cJ5_grow_2 41 = .ok (.putfield 9, 3) := by decide +kernel
theorem dJ5_grow_2_44 : decode cJ5_grow_2 44 = .ok (.areturn, 1) := by decide +kernel
theorem dJ5_grow_2_45 : decode cJ5_grow_2 45 = .ok (.aload_n 0, 1) := by decide +kernel
theorem dJ5_grow_2_46 : decode cJ5_grow_2 46 = .ok (.bipush 10, 2) := by decide +kernel
theorem dJ5_grow_2_48 : decode cJ5_grow_2 48 = .ok (.iload_n 1, 1) := by decide +kernel
theorem dJ5_grow_2_49 : decode cJ5_grow_2 49 = .ok (.invokestatic 79, 3) := by decide +kernel
theorem dJ5_grow_2_52 : decode cJ5_grow_2 52 = .ok (.anewarray 7, 3) := by decide +kernel
theorem dJ5_grow_2_55 : decode cJ5_grow_2 55 = .ok (.dup_x1, 1) := by decide +kernel
theorem dJ5_grow_2_56 : decode cJ5_grow_2 56 = .ok (.putfield 9, 3) := by decide +kernel
theorem dJ5_grow_2_59 : decode cJ5_grow_2 59 = .ok (.areturn, 1) := by decide +kernel
theorem dJ5_get_0 : decode cJ5_get 0 = .ok (.iload_n 1, 1) := by decide +kernel
theorem dJ5_get_1 : decode cJ5_get 1 = .ok (.aload_n 0, 1) := by decide +kernel
theorem dJ5_get_2 : decode cJ5_get 2 = .ok (.getfield 48, 3) := by decide +kernel
theorem dJ5_get_5 : decode cJ5_get 5 = .ok (.invokestatic 118, 3) := by decide +kernel
theorem dJ5_get_8 : decode cJ5_get 8 = .ok (.pop, 1) := by decide +kernel
theorem dJ5_get_9 : decode cJ5_get 9 = .ok (.aload_n 0, 1) := by decide +kernel
theorem dJ5_get_10 : decode cJ5_get 10 = .ok (.iload_n 1, 1) := by decide +kernel
theorem dJ5_get_11 : decode cJ5_get 11 = .ok (.invokevirtual 123, 3) := by decide +kernel
theorem dJ5_get_14 : decode cJ5_get 14 = .ok (.areturn, 1) := by decide +kernel
theorem dJ5_elementData_0 : decode cJ5_elementData 0 = .ok (.aload_n 0, 1) := by decide +kernel
theorem dJ5_elementData_1 : decode cJ5_elementData 1 = .ok (.getfield 9, 3) := by decide +kernel
theorem dJ5_elementData_4 : decode cJ5_elementData 4 = .ok (.iload_n 1, 1) := by decide +kernel
theorem dJ5_elementData_5 : decode cJ5_elementData 5 = .ok (.aaload, 1) := by decide +kernel
theorem dJ5_elementData_6 : decode cJ5_elementData 6 = .ok (.areturn, 1) := by decide +kernel
theorem dJ5_size_0 : decode cJ5_size 0 = .ok (.aload_n 0, 1) := by decide +kernel
theorem dJ5_size_1 : decode cJ5_size 1 = .ok (.getfield 48, 3) := by decide +kernel
theorem dJ5_size_4 : decode cJ5_size 4 = .ok (.ireturn, 1) := by decide +kernel
theorem dJ5_remove_0 : decode cJ5_remove 0 = .ok (.iload_n 1, 1) := by decide +kernel
theorem dJ5_remove_1 : decode cJ5_remove 1 = .ok (.aload_n 0, 1) := by decide +kernel
theorem dJ5_remove_2 : decode cJ5_remove 2 = .ok (.getfield 48, 3) := by decide +kernel
theorem dJ5_remove_5 : decode cJ5_remove 5 = .ok (.invokestatic 118, 3) := by decide +kernel
theorem dJ5_remove_8 : decode cJ5_remove 8 = .ok (.pop, 1) := by decide +kernel
theorem dJ5_remove_9 : decode cJ5_remove 9 = .ok (.aload_n 0, 1) := by decide +kernel
theorem dJ5_remove_10 : decode cJ5_remove 10 = .ok (.getfield 9, 3) := by decide +kernel
theorem dJ5_remove_13 : decode cJ5_remove 13 = .ok (.astore_n 2, 1) := by decide +kernel
theorem dJ5_remove_14 : decode cJ5_remove 14 = .ok (.aload_n 2, 1) := by decide +kernel
theorem dJ5_remove_15 : decode cJ5_remove 15 = .ok (.iload_n 1, 1) := by decide +kernel
theorem dJ5_remove_16 : decode cJ5_remove 16 = .ok (.aaload, 1) := by decide +kernel
theorem dJ5_remove_17 : decode cJ5_remove 17 = .ok (.astore_n 3, 1) := by decide +kernel
theorem dJ5_remove_18 : decode cJ5_remove 18 = .ok (.aload_n 0, 1) := by decide +kernel
theorem dJ5_remove_19 : decode cJ5_remove 19 = .ok (.aload_n 2, 1) := by decide +kernel
theorem dJ5_remove_20 : decode cJ5_remove 20 = .ok (.iload_n 1, 1) := by decide +kernel
theorem dJ5_remove_21 : decode cJ5_remove 21 = .ok (.invokevirtual 144, 3) := by decide +kernel
theorem dJ5_remove_24 : decode cJ5_remove 24 = .ok (.aload_n 3, 1) := by decide +kernel
theorem dJ5_remove_25 : decode cJ5_remove 25 = .ok (.areturn, 1) := by decide +kernel
theorem dJ5_fastRemove_0 : decode cJ5_fastRemove 0 = .ok (.aload_n 0, 1) := by decide +kernel
theorem dJ5_fastRemove_1 : decode cJ5_fastRemove 1 = .ok (.dup, 1) := by decide +kernel
theorem dJ5_fastRemove_2 : decode cJ5_fastRemove 2 = .ok (.getfield 63, 3) := by decide +kernel
theorem dJ5_fastRemove_5 : decode cJ5_fastRemove 5 = .ok (.iconst 1, 1) := by decide +kernel
theorem dJ5_fastRemove_6 : decode cJ5_fastRemove 6 = .ok (.iadd, 1) := by decide +kernel
theorem dJ5_fastRemove_7 : decode cJ5_fastRemove 7 = .ok (.putfield 63, 3) := by decide +kernel
theorem dJ5_fastRemove_10 : decode cJ5_fastRemove 10 = .ok (.aload_n 0, 1) := by decide +kernel
theorem dJ5_fastRemove_11 : decode cJ5_fastRemove 11 = .ok (.getfield 48, 3) := by decide +kernel
theorem dJ5_fastRemove_14 : decode cJ5_fastRemove 14 = .ok (.iconst 1, 1) := by decide +kernel
theorem dJ5_fastRemove_15 : decode cJ5_fastRemove 15 = .ok (.isub, 1) := by decide +kernel
theorem dJ5_fastRemove_16 : decode cJ5_fastRemove 16 = .ok (.dup, 1) := by decide +kernel
theorem dJ5_fastRemove_17 : decode cJ5_fastRemove 17 = .ok (.istore_n 3, 1) := by decide +kernel
theorem dJ5_fastRemove_18 : decode cJ5_fastRemove 18 = .ok (.iload_n 2, 1) := by decide +kernel
theorem dJ5_fastRemove_19 : decode cJ5_fastRemove 19 = .ok (.if_icmp .le 15, 3) := by decide +kernel
theorem dJ5_fastRemove_22 : decode cJ5_fastRemove 22 = .ok (.aload_n 1, 1) := by decide +kernel
theorem dJ5_fastRemove_23 : decode cJ5_fastRemove 23 = .ok (.iload_n 2, 1) := by decide +kernel
theorem dJ5_fastRemove_24 : decode cJ5_fastRemove 24 = .ok (.iconst 1, 1) := by decide +kernel
theorem dJ5_fastRemove_25 : decode cJ5_fastRemove 25 = .ok (.iadd, 1) := by decide +kernel
theorem dJ5_fastRemove_26 : decode cJ5_fastRemove 26 = .ok (.aload_n 1, 1) := by decide +kernel
theorem dJ5_fastRemove_27 : decode cJ5_fastRemove 27 = .ok (.iload_n 2, 1) := by decide +kernel
theorem dJ5_fastRemove_28 : decode cJ5_fastRemove 28 = .ok (.iload_n 3, 1) := by decide +kernel
theorem dJ5_fastRemove_29 : decode cJ5_fastRemove 29 = .ok (.iload_n 2, 1) := by decide +kernel
theorem dJ5_fastRemove_30 : decode cJ5_fastRemove 30 = .ok (.isub, 1) := by decide +kernel
theorem dJ5_fastRemove_31 : decode cJ5_fastRemove 31 = .ok (.invokestatic 112, 3) := by decide +kernel
theorem dJ5_fastRemove_34 : decode cJ5_fastRemove 34 = .ok (.aload_n 1, 1) := by decide +kernel
theorem dJ5_fastRemove_35 : decode cJ5_fastRemove 35 = .ok (.aload_n 0, 1) := by decide +kernel
theorem dJ5_fastRemove_36 : decode cJ5_fastRemove 36 = .ok (.iload_n 3, 1) := by decide +kernel
theorem dJ5_fastRemove_37 : decode cJ5_fastRemove 37 = .ok (.dup_x1, 1) := by decide +kernel
theorem dJ5_fastRemove_38 : decode cJ5_fastRemove 38 = .ok (.putfield 48, 3) := by decide +kernel
theorem dJ5_fastRemove_41 : decode cJ5_fastRemove 41 = .ok (.aconst_null, 1) := by decide +kernel
theorem dJ5_fastRemove_42 : decode cJ5_fastRemove 42 = .ok (.aastore, 1) := by decide +kernel
theorem dJ5_fastRemove_43 : decode cJ5_fastRemove 43 = .ok (.return_, 1) := by decide +kernel
theorem dJ5_isEmpty_0 : decode cJ5_isEmpty 0 = .ok (.aload_n 0, 1) := by decide +kernel
theorem dJ5_isEmpty_1 : decode cJ5_isEmpty 1 = .ok (.getfield 48, 3) := by decide +kernel
theorem dJ5_isEmpty_4 : decode cJ5_isEmpty 4 = .ok (.ifCond .ne 7, 3) := by decide +kernel
theorem dJ5_isEmpty_7 : decode cJ5_isEmpty 7 = .ok (.iconst 1, 1) := by decide +kernel
theorem dJ5_isEmpty_8 : decode cJ5_isEmpty 8 = .ok (.goto 4, 3) := by decide +kernel
theorem dJ5_isEmpty_11 : decode cJ5_isEmpty 11 = .ok (.iconst 0, 1) := by decide +kernel
theorem dJ5_isEmpty_12 : decode cJ5_isEmpty 12 = .ok (.ireturn, 1) := by decide +kernel
theorem dJ5_set_0 : decode cJ5_set 0 = .ok (.iload_n 1, 1) := by decide +kernel
theorem dJ5_set_1 : decode cJ5_set 1 = .ok (.aload_n 0, 1) := by decide +kernel
theorem dJ5_set_2 : decode cJ5_set 2 = .ok (.getfield 48, 3) := by decide +kernel
theorem dJ5_set_5 : decode cJ5_set 5 = .ok (.invokestatic 118, 3) := by decide +kernel
theorem dJ5_set_8 : decode cJ5_set 8 = .ok (.pop, 1) := by decide +kernel
theorem dJ5_set_9 : decode cJ5_set 9 = .ok (.aload_n 0, 1) := by decide +kernel
theorem dJ5_set_10 : decode cJ5_set 10 = .ok (.iload_n 1, 1) := by decide +kernel
theorem dJ5_set_11 : decode cJ5_set 11 = .ok (.invokevirtual 123, 3) := by decide +kernel
theorem dJ5_set_14 : decode cJ5_set 14 = .ok (.astore_n 3, 1) := by decide +kernel
theorem dJ5_set_15 : decode cJ5_set 15 = .ok (.aload_n 0, 1) := by decide +kernel
theorem dJ5_set_16 : decode cJ5_set 16 = .ok (.getfield 9, 3) := by decide +kernel
theorem dJ5_set_19 : decode cJ5_set 19 = .ok (.iload_n 1, 1) := by decide +kernel
theorem dJ5_set_20 : decode cJ5_set 20 = .ok (.aload_n 2, 1) := by decide +kernel
theorem dJ5_set_21 : decode cJ5_set 21 = .ok (.aastore, 1) := by decide +kernel
theorem dJ5_set_22 : decode cJ5_set 22 = .ok (.aload_n 3, 1) := by decide +kernel
theorem dJ5_set_23 : decode cJ5_set 23 = .ok (.areturn, 1) := by decide +kernel
theorem dJ4_init_0 : decode cJ4_init 0 = .ok (.aload_n 0, 1) := by decide +kernel
theorem dJ4_init_1 : decode cJ4_init 1 = .ok (.invokespecial 1, 3) := by decide +kernel
theorem dJ4_init_4 : decode cJ4_init 4 = .ok (.aload_n 0, 1) := by decide +kernel
theorem dJ4_init_5 : decode cJ4_init 5 = .ok (.iconst 0, 1) := by decide +kernel
theorem dJ4_init_6 : decode cJ4_init 6 = .ok (.putfield 7, 3) := by decide +kernel
theorem dJ4_init_9 : decode cJ4_init 9 = .ok (.return_, 1) := by decide +kernel
theorem dJ3_init_0 : decode cJ3_init 0 = .ok (.aload_n 0, 1) := by decide +kernel
theorem dJ3_init_1 : decode cJ3_init 1 = .ok (.invokespecial 1, 3) := by decide +kernel
theorem dJ3_init_4 : decode cJ3_init 4 = .ok (.return_, 1) := by decide +kernel
theorem dJ13_checkIndex_0 : decode cJ13_checkIndex 0 = .ok (.iload_n 0, 1) := by decide +kernel
theorem dJ13_checkIndex_1 : decode cJ13_checkIndex 1 = .ok (.iload_n 1, 1) := by decide +kernel
theorem dJ13_checkIndex_2 : decode cJ13_checkIndex 2 = .ok (.aconst_null, 1) := by decide +kernel
theorem dJ13_checkIndex_3 : decode cJ13_checkIndex 3 = .ok (.invokestatic 105, 3) := by decide +kernel
theorem dJ13_checkIndex_6 : decode cJ13_checkIndex 6 = .ok (.ireturn, 1) := by decide +kernel
theorem dJ8_checkIndex_0 : decode cJ8_checkIndex 0 = .ok (.iload_n 0, 1) := by decide +kernel
theorem dJ8_checkIndex_1 : decode cJ8_checkIndex 1 = .ok (.ifCond .lt 8, 3) := by decide +kernel
theorem dJ8_checkIndex_4 : decode cJ8_checkIndex 4 = .ok (.iload_n 0, 1) := by decide +kernel
theorem dJ8_checkIndex_5 : decode cJ8_checkIndex 5 = .ok (.iload_n 1, 1) := by decide +kernel
theorem dJ8_checkIndex_6 : decode cJ8_checkIndex 6 = .ok (.if_icmp .lt 10, 3) := by decide +kernel
theorem dJ8_checkIndex_9 : decode cJ8_checkIndex 9 = .ok (.aload_n 2, 1) := by decide +kernel
theorem dJ8_checkIndex_10 : decode cJ8_checkIndex 10 = .ok (.iload_n 0, 1) := by decide +kernel
theorem dJ8_checkIndex_11 : decode cJ8_checkIndex 11 = .ok (.iload_n 1, 1) := by decide +kernel
theorem dJ8_checkIndex_12 : decode cJ8_checkIndex 12 = .ok (.invokestatic 95, 3) := by decide +kernel
theorem dJ8_checkIndex_15 : decode cJ8_checkIndex 15 = .ok (.athrow, 1) := by decide +kernel
theorem dJ8_checkIndex_16 : decode cJ8_checkIndex 16 = .ok (.iload_n 0, 1) := by decide +kernel
theorem dJ8_checkIndex_17 : decode cJ8_checkIndex 17 = .ok (.ireturn, 1) := by decide +kernel
theorem dJ10_newLength_0 : decode cJ10_newLength 0 = .ok (.iload_n 0, 1) := by decide +kernel
theorem dJ10_newLength_1 : decode cJ10_newLength 1 = .ok (.iload_n 1, 1) := by decide +kernel
theorem dJ10_newLength_2 : decode cJ10_newLength 2 = .ok (.iload_n 2, 1) := by decide +kernel
theorem dJ10_newLength_3 : decode cJ10_newLength 3 = .ok (.invokestatic 194, 3) := by decide +kernel
theorem dJ10_newLength_6 : decode cJ10_newLength 6 = .ok (.iadd, 1) := by decide +kernel
theorem dJ10_newLength_7 : decode cJ10_newLength 7 = .ok (.istore_n 3, 1) := by decide +kernel
theorem dJ10_newLength_8 : decode cJ10_newLength 8 = .ok (.iconst 0, 1) := by decide +kernel
theorem dJ10_newLength_9 : decode cJ10_newLength 9 = .ok (.iload_n 3, 1) := by decide +kernel
theorem dJ10_newLength_10 : decode cJ10_newLength 10 = .ok (.if_icmp .ge 11, 3) := by decide +kernel
theorem dJ10_newLength_13 : decode cJ10_newLength 13 = .ok (.iload_n 3, 1) := by decide +kernel
theorem dJ10_newLength_14 : decode cJ10_newLength 14 = .ok (.ldc 200, 2) := by decide +kernel
theorem dJ10_newLength_16 : decode cJ10_newLength 16 = .ok (.if_icmp .gt 5, 3) := by decide +kernel
theorem dJ10_newLength_19 : decode cJ10_newLength 19 = .ok (.iload_n 3, 1) := by decide +kernel
theorem dJ10_newLength_20 : decode cJ10_newLength 20 = .ok (.ireturn, 1) := by decide +kernel
theorem dJ10_newLength_21 : decode cJ10_newLength 21 = .ok (.iload_n 0, 1) := by decide +kernel
theorem dJ10_newLength_22 : decode cJ10_newLength 22 = .ok (.iload_n 1, 1) := by decide +kernel
theorem dJ10_newLength_23 : decode cJ10_newLength 23 = .ok (.invokestatic 201, 3) := by decide +kernel
theorem dJ10_newLength_26 : decode cJ10_newLength 26 = .ok (.ireturn, 1) := by decide +kernel
theorem dJ11_max_0 : decode cJ11_max 0 = .ok (.iload_n 0, 1) := by decide +kernel
theorem dJ11_max_1 : decode cJ11_max 1 = .ok (.iload_n 1, 1) := by decide +kernel
theorem dJ11_max_2 : decode cJ11_max 2 = .ok (.if_icmp .lt 7, 3) := by decide +kernel
theorem dJ11_max_5 : decode cJ11_max 5 = .ok (.iload_n 0, 1) := by decide +kernel
theorem dJ11_max_6 : decode cJ11_max 6 = .ok (.goto 4, 3) := by decide +kernel
theorem dJ11_max_9 : decode cJ11_max 9 = .ok (.iload_n 1, 1) := by decide +kernel
theorem dJ11_max_10 : decode cJ11_max 10 = .ok (.ireturn, 1) := by decide +kernel
theorem dJ11_min_0 : decode cJ11_min 0 = .ok (.iload_n 0, 1) := by decide +kernel
theorem dJ11_min_1 : decode cJ11_min 1 = .ok (.iload_n 1, 1) := by decide +kernel
theorem dJ11_min_2 : decode cJ11_min 2 = .ok (.if_icmp .gt 7, 3) := by decide +kernel
theorem dJ11_min_5 : decode cJ11_min 5 = .ok (.iload_n 0, 1) := by decide +kernel
theorem dJ11_min_6 : decode cJ11_min 6 = .ok (.goto 4, 3) := by decide +kernel
theorem dJ11_min_9 : decode cJ11_min 9 = .ok (.iload_n 1, 1) := by decide +kernel
theorem dJ11_min_10 : decode cJ11_min 10 = .ok (.ireturn, 1) := by decide +kernel
theorem dJ12_copyOf_0 : decode cJ12_copyOf 0 = .ok (.aload_n 0, 1) := by decide +kernel
theorem dJ12_copyOf_1 : decode cJ12_copyOf 1 = .ok (.iload_n 1, 1) := by decide +kernel
theorem dJ12_copyOf_2 : decode cJ12_copyOf 2 = .ok (.aload_n 0, 1) := by decide +kernel
theorem dJ12_copyOf_3 : decode cJ12_copyOf 3 = .ok (.invokevirtual 86, 3) := by decide +kernel
theorem dJ12_copyOf_6 : decode cJ12_copyOf 6 = .ok (.invokestatic 300, 3) := by decide +kernel
theorem dJ12_copyOf_9 : decode cJ12_copyOf 9 = .ok (.areturn, 1) := by decide +kernel
theorem dJ12_copyOf_2_0 : decode cJ12_copyOf_2 0 = .ok (.aload_n 2, 1) := by decide +kernel
theorem dJ12_copyOf_2_1 : decode cJ12_copyOf_2 1 = .ok (.ldc 110, 2) := by decide +kernel
theorem dJ12_copyOf_2_3 : decode cJ12_copyOf_2 3 = .ok (.if_acmp .ne 10, 3) := by decide +kernel
theorem dJ12_copyOf_2_6 : decode cJ12_copyOf_2 6 = .ok (.iload_n 1, 1) := by decide +kernel
theorem dJ12_copyOf_2_7 : decode cJ12_copyOf_2 7 = .ok (.anewarray 2, 3) := by decide +kernel
theorem dJ12_copyOf_2_10 : decode cJ12_copyOf_2 10 = .ok (.goto 14, 3) := by decide +kernel
theorem dJ12_copyOf_2_13 : decode cJ12_copyOf_2 13 = .ok (.aload_n 2, 1) := by decide +kernel
theorem dJ12_copyOf_2_14 : decode cJ12_copyOf_2 14 = .ok (.invokevirtual 90, 3) := by decide +kernel
theorem dJ12_copyOf_2_17 : decode cJ12_copyOf_2 17 = .ok (.iload_n 1, 1) := by decide +kernel
theorem dJ12_copyOf_2_18 : decode cJ12_copyOf_2 18 = .ok (.invokestatic 95, 3) := by decide +kernel
theorem dJ12_copyOf_2_21 : decode cJ12_copyOf_2 21 = .ok (.checkcast 110, 3) := by decide +kernel
theorem dJ12_copyOf_2_24 : decode cJ12_copyOf_2 24 = .ok (.astore_n 3, 1) := by decide +kernel
theorem dJ12_copyOf_2_25 : decode cJ12_copyOf_2 25 = .ok (.aload_n 0, 1) := by decide +kernel
theorem dJ12_copyOf_2_26 : decode cJ12_copyOf_2 26 = .ok (.iconst 0, 1) := by decide +kernel
theorem dJ12_copyOf_2_27 : decode cJ12_copyOf_2 27 = .ok (.aload_n 3, 1) := by decide +kernel
theorem dJ12_copyOf_2_28 : decode cJ12_copyOf_2 28 = .ok (.iconst 0, 1) := by decide +kernel
theorem dJ12_copyOf_2_29 : decode cJ12_copyOf_2 29 = .ok (.aload_n 0, 1) := by decide +kernel
theorem dJ12_copyOf_2_30 : decode cJ12_copyOf_2 30 = .ok (.arraylength, 1) := by decide +kernel
theorem dJ12_copyOf_2_31 : decode cJ12_copyOf_2 31 = .ok (.iload_n 1, 1) := by decide +kernel
theorem dJ12_copyOf_2_32 : decode cJ12_copyOf_2 32 = .ok (.invokestatic 304, 3) := by decide +kernel
theorem dJ12_copyOf_2_35 : decode cJ12_copyOf_2 35 = .ok (.invokestatic 150, 3) := by decide +kernel
theorem dJ12_copyOf_2_38 : decode cJ12_copyOf_2 38 = .ok (.aload_n 3, 1) := by decide +kernel
theorem dJ12_copyOf_2_39 : decode cJ12_copyOf_2 39 = .ok (.areturn, 1) := by decide +kernel
