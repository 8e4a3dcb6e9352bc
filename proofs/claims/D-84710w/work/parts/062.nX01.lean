/-! names: X0_run X0_start X0_next X0_serve X0_output X0_world X0_global X0_put X0_set X0_go X0_board J15_valueOf J15_init J15_intValue J14_init X3_init J0_init J0_init_2 J1_init J1_init_2 J2_init J2_init_2 (tools/chunk.py) -/
set_option maxRecDepth 100000
abbrev cX0_run : ByteArray := prog_1_method_18_code
def yX0_run : MethodName := ⟨RX0, "run", "(I)I"⟩
theorem q2874 : (Jvm.Cond.code ({ cls := "CompiledHouse", name := "run", desc := "(I)I" } : Jvm.MethodName) prog_1_method_18_code (5 : Nat) (Option.some Jvm.ClassFile.FieldType.int)) ∈ lw_all := lw_g (lw_at lw_m12 38 rfl) rfl
def kX0_run : xK := (yX0_run, cX0_run, 5, some .int, [])
theorem me_X0_run : xMe kX0_run 1 := ⟨q2874, q197, by decide, by decide, by decide +kernel⟩
theorem q2872 : (Jvm.Cond.instanceMethod ({ cls := "CompiledHouse", name := "run", desc := "(I)I" } : Jvm.MethodName)) ∈ lw_all := lw_g (lw_at lw_m12 36 rfl) rfl
theorem is_X0_run : Cond.instanceMethod kX0_run.y ∈ lw_all := q2872
theorem se_X0_run : Cond.selects RX0 kX0_run.y kX0_run.y ∈ lw_all := q2873
theorem q849 : (Jvm.Cond.fieldLinkNest "CompiledHouse" (241 : Nat) "CompiledHouse$Processor" "x" "[I" "CompiledHouse") ∈ lw_tbl := lw_at lw_m3 173 rfl
theorem f_X0_241_11 : xF RX0 241 11 1 := ⟨_, "CompiledHouse$Processor", rfl, by decide, Or.inr ⟨_, q849⟩, Or.inl rfl⟩
theorem q2875 : (Jvm.Cond.methodLink "CompiledHouse" (244 : Nat) ({ cls := "CompiledHouse", name := "start", desc := "(I)V" } : Jvm.MethodName)) ∈ lw_all := lw_g (lw_at lw_m12 39 rfl) rfl
abbrev cX0_start : ByteArray := prog_1_method_19_code
def yX0_start : MethodName := ⟨RX0, "start", "(I)V"⟩
theorem q2878 : (Jvm.Cond.code ({ cls := "CompiledHouse", name := "start", desc := "(I)V" } : Jvm.MethodName) prog_1_method_19_code (4 : Nat) (Option.none : Option Jvm.ClassFile.FieldType)) ∈ lw_all := lw_g (lw_at lw_m12 42 rfl) rfl
def kX0_start : xK := (yX0_start, cX0_start, 4, none, [])
theorem me_X0_start : xMe kX0_start 1 := ⟨q2878, q197, by decide, by decide, by decide +kernel⟩
theorem q2877 : (Jvm.Cond.instanceMethod ({ cls := "CompiledHouse", name := "start", desc := "(I)V" } : Jvm.MethodName)) ∈ lw_all := lw_g (lw_at lw_m12 41 rfl) rfl
theorem is_X0_start : Cond.instanceMethod kX0_start.y ∈ lw_all := q2877
theorem se_X0_start : Cond.selects RX0 kX0_start.y kX0_start.y ∈ lw_all := qs107
theorem lk_X0_244 : xLk RX0 244 yX0_start := Or.inl q2875
theorem q2879 : (Jvm.Cond.methodLink "CompiledHouse" (247 : Nat) ({ cls := "CompiledHouse", name := "next", desc := "()I" } : Jvm.MethodName)) ∈ lw_all := lw_g (lw_at lw_m12 43 rfl) rfl
abbrev cX0_next : ByteArray := prog_1_method_20_code
def yX0_next : MethodName := ⟨RX0, "next", "()I"⟩
theorem q2882 : (Jvm.Cond.code ({ cls := "CompiledHouse", name := "next", desc := "()I" } : Jvm.MethodName) prog_1_method_20_code (3 : Nat) (Option.some Jvm.ClassFile.FieldType.int)) ∈ lw_all := lw_g (lw_at lw_m12 46 rfl) rfl
def kX0_next : xK := (yX0_next, cX0_next, 3, some .int, [])
theorem me_X0_next : xMe kX0_next 0 := ⟨q2882, q197, by decide, by decide, by decide +kernel⟩
theorem q2881 : (Jvm.Cond.instanceMethod ({ cls := "CompiledHouse", name := "next", desc := "()I" } : Jvm.MethodName)) ∈ lw_all := lw_g (lw_at lw_m12 45 rfl) rfl
theorem is_X0_next : Cond.instanceMethod kX0_next.y ∈ lw_all := q2881
theorem se_X0_next : Cond.selects RX0 kX0_next.y kX0_next.y ∈ lw_all := qs108
theorem lk_X0_247 : xLk RX0 247 yX0_next := Or.inl q2879
theorem q2883 : (Jvm.Cond.methodLink "CompiledHouse" (250 : Nat) ({ cls := "CompiledHouse$Processor", name := "go", desc := "(I)I" } : Jvm.MethodName)) ∈ lw_all := lw_g (lw_at lw_m12 47 rfl) rfl
theorem lk_X0_250 : xLk RX0 250 yX12_go := Or.inl q2883
theorem q2938 : (Jvm.Cond.methodLink "CompiledHouse" (254 : Nat) ({ cls := "CompiledHouse", name := "serve", desc := "(I)Z" } : Jvm.MethodName)) ∈ lw_all := lw_g (lw_at lw_m12 102 rfl) rfl
abbrev cX0_serve : ByteArray := prog_1_method_21_code
def yX0_serve : MethodName := ⟨RX0, "serve", "(I)Z"⟩
theorem q2941 : (Jvm.Cond.code ({ cls := "CompiledHouse", name := "serve", desc := "(I)Z" } : Jvm.MethodName) prog_1_method_21_code (3 : Nat) (Option.some Jvm.ClassFile.FieldType.boolean)) ∈ lw_all := lw_g (lw_at lw_m12 105 rfl) rfl
def kX0_serve : xK := (yX0_serve, cX0_serve, 3, some .boolean, [])
theorem me_X0_serve : xMe kX0_serve 1 := ⟨q2941, q197, by decide, by decide, by decide +kernel⟩
theorem q2940 : (Jvm.Cond.instanceMethod ({ cls := "CompiledHouse", name := "serve", desc := "(I)Z" } : Jvm.MethodName)) ∈ lw_all := lw_g (lw_at lw_m12 104 rfl) rfl
theorem is_X0_serve : Cond.instanceMethod kX0_serve.y ∈ lw_all := q2940
theorem se_X0_serve : Cond.selects RX0 kX0_serve.y kX0_serve.y ∈ lw_all := qs118
theorem lk_X0_254 : xLk RX0 254 yX0_serve := Or.inl q2938
theorem q2943 : (Jvm.Cond.classLink "CompiledHouse" (258 : Nat) "java/lang/IllegalStateException") ∈ lw_all := lw_g (lw_at lw_m12 107 rfl) rfl
theorem q2952 : (Jvm.Cond.methodLink "CompiledHouse" (260 : Nat) ({ cls := "java/lang/IllegalStateException", name := "<init>", desc := "()V" } : Jvm.MethodName)) ∈ lw_all := lw_g (lw_at lw_m12 116 rfl) rfl
abbrev cJ17_init : ByteArray := prog_43_method_1_code
def yJ17_init : MethodName := ⟨RJ17, "<init>", "()V"⟩
theorem q2954 : (Jvm.Cond.code ({ cls := "java/lang/IllegalStateException", name := "<init>", desc := "()V" } : Jvm.MethodName) prog_43_method_1_code (1 : Nat) (Option.none : Option Jvm.ClassFile.FieldType)) ∈ lw_all := lw_g (lw_at lw_m12 118 rfl) rfl
theorem q254 : (Jvm.Cond.initialized "java/lang/IllegalStateException") ∈ lw_all := lw_g (lw_at lw_m1 58 rfl) rfl
def kJ17_init : xK := (yJ17_init, cJ17_init, 1, none, [])
theorem me_J17_init : xMe kJ17_init 0 := ⟨q2954, q254, by decide, by decide, by decide +kernel⟩
theorem q2953 : (Jvm.Cond.instanceMethod ({ cls := "java/lang/IllegalStateException", name := "<init>", desc := "()V" } : Jvm.MethodName)) ∈ lw_all := lw_g (lw_at lw_m12 117 rfl) rfl
theorem is_J17_init : Cond.instanceMethod kJ17_init.y ∈ lw_all := q2953
theorem lk_X0_260 : xLk RX0 260 yJ17_init := Or.inl q2952
theorem q851 : (Jvm.Cond.fieldLinkNest "CompiledHouse" (261 : Nat) "CompiledHouse$Processor" "pc" "I" "CompiledHouse") ∈ lw_tbl := lw_at lw_m3 175 rfl
theorem f_X0_261_11 : xF RX0 261 11 2 := ⟨_, "CompiledHouse$Processor", rfl, by decide, Or.inr ⟨_, q851⟩, Or.inl rfl⟩
theorem q2942 : (Jvm.Cond.constant "CompiledHouse" (266 : Nat) (2147483647 : Int32)) ∈ lw_all := lw_g (lw_at lw_m12 106 rfl) rfl
abbrev cX0_output : ByteArray := prog_1_method_22_code
def yX0_output : MethodName := ⟨RX0, "output", "(I)I"⟩
theorem q2967 : (Jvm.Cond.code ({ cls := "CompiledHouse", name := "output", desc := "(I)I" } : Jvm.MethodName) prog_1_method_22_code (2 : Nat) (Option.some Jvm.ClassFile.FieldType.int)) ∈ lw_all := lw_g (lw_at lw_m12 131 rfl) rfl
def kX0_output : xK := (yX0_output, cX0_output, 2, some .int, [])
theorem me_X0_output : xMe kX0_output 1 := ⟨q2967, q197, by decide, by decide, by decide +kernel⟩
theorem q2965 : (Jvm.Cond.instanceMethod ({ cls := "CompiledHouse", name := "output", desc := "(I)I" } : Jvm.MethodName)) ∈ lw_all := lw_g (lw_at lw_m12 129 rfl) rfl
theorem is_X0_output : Cond.instanceMethod kX0_output.y ∈ lw_all := q2965
theorem se_X0_output : Cond.selects RX0 kX0_output.y kX0_output.y ∈ lw_all := q2966
abbrev cX0_world : ByteArray := prog_1_method_23_code
def yX0_world : MethodName := ⟨RX0, "world", "(I)I"⟩
theorem q2971 : (Jvm.Cond.code ({ cls := "CompiledHouse", name := "world", desc := "(I)I" } : Jvm.MethodName) prog_1_method_23_code (2 : Nat) (Option.some Jvm.ClassFile.FieldType.int)) ∈ lw_all := lw_g (lw_at lw_m12 135 rfl) rfl
def kX0_world : xK := (yX0_world, cX0_world, 2, some .int, [])
theorem me_X0_world : xMe kX0_world 1 := ⟨q2971, q197, by decide, by decide, by decide +kernel⟩
theorem q2969 : (Jvm.Cond.instanceMethod ({ cls := "CompiledHouse", name := "world", desc := "(I)I" } : Jvm.MethodName)) ∈ lw_all := lw_g (lw_at lw_m12 133 rfl) rfl
theorem is_X0_world : Cond.instanceMethod kX0_world.y ∈ lw_all := q2969
theorem se_X0_world : Cond.selects RX0 kX0_world.y kX0_world.y ∈ lw_all := q2970
abbrev cX0_global : ByteArray := prog_1_method_24_code
def yX0_global : MethodName := ⟨RX0, "global", "(I)I"⟩
theorem q2975 : (Jvm.Cond.code ({ cls := "CompiledHouse", name := "global", desc := "(I)I" } : Jvm.MethodName) prog_1_method_24_code (2 : Nat) (Option.some Jvm.ClassFile.FieldType.int)) ∈ lw_all := lw_g (lw_at lw_m12 139 rfl) rfl
def kX0_global : xK := (yX0_global, cX0_global, 2, some .int, [])
theorem me_X0_global : xMe kX0_global 1 := ⟨q2975, q197, by decide, by decide, by decide +kernel⟩
theorem q2973 : (Jvm.Cond.instanceMethod ({ cls := "CompiledHouse", name := "global", desc := "(I)I" } : Jvm.MethodName)) ∈ lw_all := lw_g (lw_at lw_m12 137 rfl) rfl
theorem is_X0_global : Cond.instanceMethod kX0_global.y ∈ lw_all := q2973
theorem se_X0_global : Cond.selects RX0 kX0_global.y kX0_global.y ∈ lw_all := q2974
abbrev cX0_put : ByteArray := prog_1_method_25_code
def yX0_put : MethodName := ⟨RX0, "put", "(II)Z"⟩
theorem q2979 : (Jvm.Cond.code ({ cls := "CompiledHouse", name := "put", desc := "(II)Z" } : Jvm.MethodName) prog_1_method_25_code (3 : Nat) (Option.some Jvm.ClassFile.FieldType.boolean)) ∈ lw_all := lw_g (lw_at lw_m12 143 rfl) rfl
def kX0_put : xK := (yX0_put, cX0_put, 3, some .boolean, [])
theorem me_X0_put : xMe kX0_put 2 := ⟨q2979, q197, by decide, by decide, by decide +kernel⟩
theorem q2977 : (Jvm.Cond.instanceMethod ({ cls := "CompiledHouse", name := "put", desc := "(II)Z" } : Jvm.MethodName)) ∈ lw_all := lw_g (lw_at lw_m12 141 rfl) rfl
theorem is_X0_put : Cond.instanceMethod kX0_put.y ∈ lw_all := q2977
theorem se_X0_put : Cond.selects RX0 kX0_put.y kX0_put.y ∈ lw_all := q2978
abbrev cX0_set : ByteArray := prog_1_method_26_code
def yX0_set : MethodName := ⟨RX0, "set", "(II)Z"⟩
theorem q2983 : (Jvm.Cond.code ({ cls := "CompiledHouse", name := "set", desc := "(II)Z" } : Jvm.MethodName) prog_1_method_26_code (3 : Nat) (Option.some Jvm.ClassFile.FieldType.boolean)) ∈ lw_all := lw_g (lw_at lw_m12 147 rfl) rfl
def kX0_set : xK := (yX0_set, cX0_set, 3, some .boolean, [])
theorem me_X0_set : xMe kX0_set 2 := ⟨q2983, q197, by decide, by decide, by decide +kernel⟩
theorem q2981 : (Jvm.Cond.instanceMethod ({ cls := "CompiledHouse", name := "set", desc := "(II)Z" } : Jvm.MethodName)) ∈ lw_all := lw_g (lw_at lw_m12 145 rfl) rfl
theorem is_X0_set : Cond.instanceMethod kX0_set.y ∈ lw_all := q2981
theorem se_X0_set : Cond.selects RX0 kX0_set.y kX0_set.y ∈ lw_all := q2982
abbrev cX0_go : ByteArray := prog_1_method_27_code
def yX0_go : MethodName := ⟨RX0, "go", "(I)I"⟩
theorem q2987 : (Jvm.Cond.code ({ cls := "CompiledHouse", name := "go", desc := "(I)I" } : Jvm.MethodName) prog_1_method_27_code (2 : Nat) (Option.some Jvm.ClassFile.FieldType.int)) ∈ lw_all := lw_g (lw_at lw_m12 151 rfl) rfl
def kX0_go : xK := (yX0_go, cX0_go, 2, some .int, [])
theorem me_X0_go : xMe kX0_go 1 := ⟨q2987, q197, by decide, by decide, by decide +kernel⟩
theorem q2985 : (Jvm.Cond.instanceMethod ({ cls := "CompiledHouse", name := "go", desc := "(I)I" } : Jvm.MethodName)) ∈ lw_all := lw_g (lw_at lw_m12 149 rfl) rfl
theorem is_X0_go : Cond.instanceMethod kX0_go.y ∈ lw_all := q2985
theorem se_X0_go : Cond.selects RX0 kX0_go.y kX0_go.y ∈ lw_all := q2986
abbrev cX0_board : ByteArray := prog_1_method_28_code
def yX0_board : MethodName := ⟨RX0, "board", "(I)I"⟩
theorem q2991 : (Jvm.Cond.code ({ cls := "CompiledHouse", name := "board", desc := "(I)I" } : Jvm.MethodName) prog_1_method_28_code (2 : Nat) (Option.some Jvm.ClassFile.FieldType.int)) ∈ lw_all := lw_g (lw_at lw_m12 155 rfl) rfl
def kX0_board : xK := (yX0_board, cX0_board, 2, some .int, [])
theorem me_X0_board : xMe kX0_board 1 := ⟨q2991, q197, by decide, by decide, by decide +kernel⟩
theorem q2989 : (Jvm.Cond.instanceMethod ({ cls := "CompiledHouse", name := "board", desc := "(I)I" } : Jvm.MethodName)) ∈ lw_all := lw_g (lw_at lw_m12 153 rfl) rfl
theorem is_X0_board : Cond.instanceMethod kX0_board.y ∈ lw_all := q2989
theorem se_X0_board : Cond.selects RX0 kX0_board.y kX0_board.y ∈ lw_all := q2990
theorem q853 : (Jvm.Cond.fieldLinkNest "CompiledHouse" (267 : Nat) "CompiledHouse$Processor" "done" "I" "CompiledHouse") ∈ lw_tbl := lw_at lw_m3 177 rfl
theorem f_X0_267_11 : xF RX0 267 11 3 := ⟨_, "CompiledHouse$Processor", rfl, by decide, Or.inr ⟨_, q853⟩, Or.inl rfl⟩
abbrev cJ15_valueOf : ByteArray := prog_44_method_22_code
def yJ15_valueOf : MethodName := ⟨RJ15, "valueOf", "(I)Ljava/lang/Integer;"⟩
theorem q1882 : (Jvm.Cond.code ({ cls := "java/lang/Integer", name := "valueOf", desc := "(I)Ljava/lang/Integer;" } : Jvm.MethodName) prog_44_method_22_code (1 : Nat) (Option.some (Jvm.ClassFile.FieldType.object "java/lang/Integer"))) ∈ lw_all := lw_g (lw_at lw_m8 6 rfl) rfl
def kJ15_valueOf : xK := (yJ15_valueOf, cJ15_valueOf, 1, some (.object "java/lang/Integer"), [])
theorem me_J15_valueOf : xMe kJ15_valueOf 1 := ⟨q1882, q250, by decide, by decide, by decide +kernel⟩
theorem q1881 : (Jvm.Cond.static ({ cls := "java/lang/Integer", name := "valueOf", desc := "(I)Ljava/lang/Integer;" } : Jvm.MethodName)) ∈ lw_all := lw_g (lw_at lw_m8 5 rfl) rfl
theorem st_J15_valueOf : Cond.static kJ15_valueOf.y ∈ lw_all := q1881
theorem q1883 : (Jvm.Cond.fieldLink "java/lang/Integer" (191 : Nat) "java/lang/Integer$IntegerCache" "high" "I") ∈ lw_all := lw_g (lw_at lw_m8 7 rfl) rfl
theorem q1885 : (Jvm.Cond.fieldLink "java/lang/Integer" (195 : Nat) "java/lang/Integer$IntegerCache" "cache" "[Ljava/lang/Integer;") ∈ lw_all := lw_g (lw_at lw_m8 9 rfl) rfl
theorem q1887 : (Jvm.Cond.classLink "java/lang/Integer" (1 : Nat) "java/lang/Integer") ∈ lw_all := lw_g (lw_at lw_m8 11 rfl) rfl
theorem q1889 : (Jvm.Cond.methodLink "java/lang/Integer" (199 : Nat) ({ cls := "java/lang/Integer", name := "<init>", desc := "(I)V" } : Jvm.MethodName)) ∈ lw_all := lw_g (lw_at lw_m8 13 rfl) rfl
abbrev cJ15_init : ByteArray := prog_44_method_23_code
def yJ15_init : MethodName := ⟨RJ15, "<init>", "(I)V"⟩
theorem q1891 : (Jvm.Cond.code ({ cls := "java/lang/Integer", name := "<init>", desc := "(I)V" } : Jvm.MethodName) prog_44_method_23_code (2 : Nat) (Option.none : Option Jvm.ClassFile.FieldType)) ∈ lw_all := lw_g (lw_at lw_m8 15 rfl) rfl
def kJ15_init : xK := (yJ15_init, cJ15_init, 2, none, [])
theorem me_J15_init : xMe kJ15_init 1 := ⟨q1891, q250, by decide, by decide, by decide +kernel⟩
theorem q1890 : (Jvm.Cond.instanceMethod ({ cls := "java/lang/Integer", name := "<init>", desc := "(I)V" } : Jvm.MethodName)) ∈ lw_all := lw_g (lw_at lw_m8 14 rfl) rfl
theorem is_J15_init : Cond.instanceMethod kJ15_init.y ∈ lw_all := q1890
theorem lk_J15_199 : xLk RJ15 199 yJ15_init := Or.inl q1889
theorem q1892 : (Jvm.Cond.methodLink "java/lang/Integer" (202 : Nat) ({ cls := "java/lang/Number", name := "<init>", desc := "()V" } : Jvm.MethodName)) ∈ lw_all := lw_g (lw_at lw_m8 16 rfl) rfl
abbrev cJ14_init : ByteArray := prog_49_method_1_code
def yJ14_init : MethodName := ⟨RJ14, "<init>", "()V"⟩
theorem q1894 : (Jvm.Cond.code ({ cls := "java/lang/Number", name := "<init>", desc := "()V" } : Jvm.MethodName) prog_49_method_1_code (1 : Nat) (Option.none : Option Jvm.ClassFile.FieldType)) ∈ lw_all := lw_g (lw_at lw_m8 18 rfl) rfl
theorem q249 : (Jvm.Cond.initialized "java/lang/Number") ∈ lw_all := lw_g (lw_at lw_m1 53 rfl) rfl
def kJ14_init : xK := (yJ14_init, cJ14_init, 1, none, [])
theorem me_J14_init : xMe kJ14_init 0 := ⟨q1894, q249, by decide, by decide, by decide +kernel⟩
theorem q1893 : (Jvm.Cond.instanceMethod ({ cls := "java/lang/Number", name := "<init>", desc := "()V" } : Jvm.MethodName)) ∈ lw_all := lw_g (lw_at lw_m8 17 rfl) rfl
theorem is_J14_init : Cond.instanceMethod kJ14_init.y ∈ lw_all := q1893
theorem lk_J15_202 : xLk RJ15 202 yJ14_init := Or.inl q1892
theorem q1896 : (Jvm.Cond.fieldLink "java/lang/Integer" (205 : Nat) "java/lang/Integer" "value" "I") ∈ lw_all := lw_g (lw_at lw_m8 20 rfl) rfl
theorem f_J15_205_37 : xF RJ15 205 37 0 := ⟨_, "java/lang/Integer", rfl, by decide, Or.inl q1896, Or.inl rfl⟩
theorem q1895 : (Jvm.Cond.methodLink "java/lang/Number" (1 : Nat) ({ cls := "java/lang/Object", name := "<init>", desc := "()V" } : Jvm.MethodName)) ∈ lw_all := lw_g (lw_at lw_m8 19 rfl) rfl
theorem lk_J14_1 : xLk RJ14 1 yJ18_init := Or.inl q1895
abbrev cX3_init : ByteArray := prog_31_method_1_code
def yX3_init : MethodName := ⟨RX3, "<init>", "()V"⟩
theorem q421 : (Jvm.Cond.code ({ cls := "CompiledHouse$Stop", name := "<init>", desc := "()V" } : Jvm.MethodName) prog_31_method_1_code (1 : Nat) (Option.none : Option Jvm.ClassFile.FieldType)) ∈ lw_all := lw_g (lw_at lw_m1 225 rfl) rfl
def kX3_init : xK := (yX3_init, cX3_init, 1, none, [])
theorem me_X3_init : xMe kX3_init 0 := ⟨q421, q203, by decide, by decide, by decide +kernel⟩
theorem q420 : (Jvm.Cond.instanceMethod ({ cls := "CompiledHouse$Stop", name := "<init>", desc := "()V" } : Jvm.MethodName)) ∈ lw_all := lw_g (lw_at lw_m1 224 rfl) rfl
theorem is_X3_init : Cond.instanceMethod kX3_init.y ∈ lw_all := q420
theorem q422 : (Jvm.Cond.methodLink "CompiledHouse$Stop" (1 : Nat) ({ cls := "java/lang/RuntimeException", name := "<init>", desc := "(Ljava/lang/String;Ljava/lang/Throwable;ZZ)V" } : Jvm.MethodName)) ∈ lw_all := lw_g (lw_at lw_m1 226 rfl) rfl
abbrev cJ2_init : ByteArray := prog_50_method_5_code
def yJ2_init : MethodName := ⟨RJ2, "<init>", "(Ljava/lang/String;Ljava/lang/Throwable;ZZ)V"⟩
theorem q424 : (Jvm.Cond.code ({ cls := "java/lang/RuntimeException", name := "<init>", desc := "(Ljava/lang/String;Ljava/lang/Throwable;ZZ)V" } : Jvm.MethodName) prog_50_method_5_code (5 : Nat) (Option.none : Option Jvm.ClassFile.FieldType)) ∈ lw_all := lw_g (lw_at lw_m1 228 rfl) rfl
theorem q202 : (Jvm.Cond.initialized "java/lang/RuntimeException") ∈ lw_all := lw_g (lw_at lw_m1 6 rfl) rfl
def kJ2_init : xK := (yJ2_init, cJ2_init, 5, none, [])
theorem me_J2_init : xMe kJ2_init 4 := ⟨q424, q202, by decide, by decide, by decide +kernel⟩
theorem q423 : (Jvm.Cond.instanceMethod ({ cls := "java/lang/RuntimeException", name := "<init>", desc := "(Ljava/lang/String;Ljava/lang/Throwable;ZZ)V" } : Jvm.MethodName)) ∈ lw_all := lw_g (lw_at lw_m1 227 rfl) rfl
theorem is_J2_init : Cond.instanceMethod kJ2_init.y ∈ lw_all := q423
theorem lk_X3_1 : xLk RX3 1 yJ2_init := Or.inl q422
abbrev cJ0_init : ByteArray := prog_55_method_1_code
def yJ0_init : MethodName := ⟨RJ0, "<init>", "()V"⟩
theorem q403 : (Jvm.Cond.code ({ cls := "java/lang/Throwable", name := "<init>", desc := "()V" } : Jvm.MethodName) prog_55_method_1_code (1 : Nat) (Option.none : Option Jvm.ClassFile.FieldType)) ∈ lw_all := lw_g (lw_at lw_m1 207 rfl) rfl
theorem q200 : (Jvm.Cond.initialized "java/lang/Throwable") ∈ lw_all := lw_g (lw_at lw_m1 4 rfl) rfl
def kJ0_init : xK := (yJ0_init, cJ0_init, 1, none, [])
theorem me_J0_init : xMe kJ0_init 0 := ⟨q403, q200, by decide, by decide, by decide +kernel⟩
theorem q402 : (Jvm.Cond.instanceMethod ({ cls := "java/lang/Throwable", name := "<init>", desc := "()V" } : Jvm.MethodName)) ∈ lw_all := lw_g (lw_at lw_m1 206 rfl) rfl
theorem is_J0_init : Cond.instanceMethod kJ0_init.y ∈ lw_all := q402
theorem q404 : (Jvm.Cond.methodLink "java/lang/Throwable" (1 : Nat) ({ cls := "java/lang/Object", name := "<init>", desc := "()V" } : Jvm.MethodName)) ∈ lw_all := lw_g (lw_at lw_m1 208 rfl) rfl
theorem lk_J0_1 : xLk RJ0 1 yJ18_init := Or.inl q404
theorem q433 : (Jvm.Cond.fieldLink "java/lang/Throwable" (7 : Nat) "java/lang/Throwable" "cause" "Ljava/lang/Throwable;") ∈ lw_all := lw_g (lw_at lw_m1 237 rfl) rfl
theorem f_J0_7_3 : xF RJ0 7 3 0 := ⟨_, "java/lang/Throwable", rfl, by decide, Or.inl q433, Or.inl rfl⟩
theorem q405 : (Jvm.Cond.fieldLink "java/lang/Throwable" (13 : Nat) "java/lang/Throwable" "UNASSIGNED_STACK" "[Ljava/lang/StackTraceElement;") ∈ lw_all := lw_g (lw_at lw_m1 209 rfl) rfl
theorem q434 : (Jvm.Cond.fieldLink "java/lang/Throwable" (17 : Nat) "java/lang/Throwable" "stackTrace" "[Ljava/lang/StackTraceElement;") ∈ lw_all := lw_g (lw_at lw_m1 238 rfl) rfl
theorem f_J0_17_3 : xF RJ0 17 3 1 := ⟨_, "java/lang/Throwable", rfl, by decide, Or.inl q434, Or.inl rfl⟩
theorem q407 : (Jvm.Cond.fieldLink "java/lang/Throwable" (20 : Nat) "java/lang/Throwable" "SUPPRESSED_SENTINEL" "Ljava/util/List;") ∈ lw_all := lw_g (lw_at lw_m1 211 rfl) rfl
theorem q435 : (Jvm.Cond.fieldLink "java/lang/Throwable" (24 : Nat) "java/lang/Throwable" "suppressedExceptions" "Ljava/util/List;") ∈ lw_all := lw_g (lw_at lw_m1 239 rfl) rfl
theorem f_J0_24_3 : xF RJ0 24 3 2 := ⟨_, "java/lang/Throwable", rfl, by decide, Or.inl q435, Or.inl rfl⟩
theorem q409 : (Jvm.Cond.methodLink "java/lang/Throwable" (27 : Nat) ({ cls := "java/lang/Throwable", name := "fillInStackTrace", desc := "()Ljava/lang/Throwable;" } : Jvm.MethodName)) ∈ lw_all := lw_g (lw_at lw_m1 213 rfl) rfl
abbrev cJ0_init_2 : ByteArray := prog_55_method_5_code
def yJ0_init_2 : MethodName := ⟨RJ0, "<init>", "(Ljava/lang/String;Ljava/lang/Throwable;ZZ)V"⟩
theorem q430 : (Jvm.Cond.code ({ cls := "java/lang/Throwable", name := "<init>", desc := "(Ljava/lang/String;Ljava/lang/Throwable;ZZ)V" } : Jvm.MethodName) prog_55_method_5_code (5 : Nat) (Option.none : Option Jvm.ClassFile.FieldType)) ∈ lw_all := lw_g (lw_at lw_m1 234 rfl) rfl
def kJ0_init_2 : xK := (yJ0_init_2, cJ0_init_2, 5, none, [])
theorem me_J0_init_2 : xMe kJ0_init_2 4 := ⟨q430, q200, by decide, by decide, by decide +kernel⟩
theorem q429 : (Jvm.Cond.instanceMethod ({ cls := "java/lang/Throwable", name := "<init>", desc := "(Ljava/lang/String;Ljava/lang/Throwable;ZZ)V" } : Jvm.MethodName)) ∈ lw_all := lw_g (lw_at lw_m1 233 rfl) rfl
theorem is_J0_init_2 : Cond.instanceMethod kJ0_init_2.y ∈ lw_all := q429
theorem q432 : (Jvm.Cond.fieldLink "java/lang/Throwable" (31 : Nat) "java/lang/Throwable" "detailMessage" "Ljava/lang/String;") ∈ lw_all := lw_g (lw_at lw_m1 236 rfl) rfl
theorem f_J0_31_3 : xF RJ0 31 3 3 := ⟨_, "java/lang/Throwable", rfl, by decide, Or.inl q432, Or.inl rfl⟩
abbrev cJ1_init : ByteArray := prog_42_method_5_code
def yJ1_init : MethodName := ⟨RJ1, "<init>", "(Ljava/lang/String;Ljava/lang/Throwable;ZZ)V"⟩
theorem q427 : (Jvm.Cond.code ({ cls := "java/lang/Exception", name := "<init>", desc := "(Ljava/lang/String;Ljava/lang/Throwable;ZZ)V" } : Jvm.MethodName) prog_42_method_5_code (5 : Nat) (Option.none : Option Jvm.ClassFile.FieldType)) ∈ lw_all := lw_g (lw_at lw_m1 231 rfl) rfl
theorem q201 : (Jvm.Cond.initialized "java/lang/Exception") ∈ lw_all := lw_g (lw_at lw_m1 5 rfl) rfl
def kJ1_init : xK := (yJ1_init, cJ1_init, 5, none, [])
theorem me_J1_init : xMe kJ1_init 4 := ⟨q427, q201, by decide, by decide, by decide +kernel⟩
theorem q426 : (Jvm.Cond.instanceMethod ({ cls := "java/lang/Exception", name := "<init>", desc := "(Ljava/lang/String;Ljava/lang/Throwable;ZZ)V" } : Jvm.MethodName)) ∈ lw_all := lw_g (lw_at lw_m1 230 rfl) rfl
theorem is_J1_init : Cond.instanceMethod kJ1_init.y ∈ lw_all := q426
theorem q428 : (Jvm.Cond.methodLink "java/lang/Exception" (16 : Nat) ({ cls := "java/lang/Throwable", name := "<init>", desc := "(Ljava/lang/String;Ljava/lang/Throwable;ZZ)V" } : Jvm.MethodName)) ∈ lw_all := lw_g (lw_at lw_m1 232 rfl) rfl
theorem lk_J1_16 : xLk RJ1 16 yJ0_init_2 := Or.inl q428
abbrev cJ1_init_2 : ByteArray := prog_42_method_1_code
def yJ1_init_2 : MethodName := ⟨RJ1, "<init>", "()V"⟩
theorem q2960 : (Jvm.Cond.code ({ cls := "java/lang/Exception", name := "<init>", desc := "()V" } : Jvm.MethodName) prog_42_method_1_code (1 : Nat) (Option.none : Option Jvm.ClassFile.FieldType)) ∈ lw_all := lw_g (lw_at lw_m12 124 rfl) rfl
def kJ1_init_2 : xK := (yJ1_init_2, cJ1_init_2, 1, none, [])
theorem me_J1_init_2 : xMe kJ1_init_2 0 := ⟨q2960, q201, by decide, by decide, by decide +kernel⟩
theorem q2959 : (Jvm.Cond.instanceMethod ({ cls := "java/lang/Exception", name := "<init>", desc := "()V" } : Jvm.MethodName)) ∈ lw_all := lw_g (lw_at lw_m12 123 rfl) rfl
theorem is_J1_init_2 : Cond.instanceMethod kJ1_init_2.y ∈ lw_all := q2959
theorem q2961 : (Jvm.Cond.methodLink "java/lang/Exception" (1 : Nat) ({ cls := "java/lang/Throwable", name := "<init>", desc := "()V" } : Jvm.MethodName)) ∈ lw_all := lw_g (lw_at lw_m12 125 rfl) rfl
theorem lk_J1_1 : xLk RJ1 1 yJ0_init := Or.inl q2961
theorem q425 : (Jvm.Cond.methodLink "java/lang/RuntimeException" (16 : Nat) ({ cls := "java/lang/Exception", name := "<init>", desc := "(Ljava/lang/String;Ljava/lang/Throwable;ZZ)V" } : Jvm.MethodName)) ∈ lw_all := lw_g (lw_at lw_m1 229 rfl) rfl
theorem lk_J2_16 : xLk RJ2 16 yJ1_init := Or.inl q425
abbrev cJ2_init_2 : ByteArray := prog_50_method_1_code
def yJ2_init_2 : MethodName := ⟨RJ2, "<init>", "()V"⟩
theorem q2957 : (Jvm.Cond.code ({ cls := "java/lang/RuntimeException", name := "<init>", desc := "()V" } : Jvm.MethodName) prog_50_method_1_code (1 : Nat) (Option.none : Option Jvm.ClassFile.FieldType)) ∈ lw_all := lw_g (lw_at lw_m12 121 rfl) rfl
def kJ2_init_2 : xK := (yJ2_init_2, cJ2_init_2, 1, none, [])
theorem me_J2_init_2 : xMe kJ2_init_2 0 := ⟨q2957, q202, by decide, by decide, by decide +kernel⟩
theorem q2956 : (Jvm.Cond.instanceMethod ({ cls := "java/lang/RuntimeException", name := "<init>", desc := "()V" } : Jvm.MethodName)) ∈ lw_all := lw_g (lw_at lw_m12 120 rfl) rfl
theorem is_J2_init_2 : Cond.instanceMethod kJ2_init_2.y ∈ lw_all := q2956
theorem q2958 : (Jvm.Cond.methodLink "java/lang/RuntimeException" (1 : Nat) ({ cls := "java/lang/Exception", name := "<init>", desc := "()V" } : Jvm.MethodName)) ∈ lw_all := lw_g (lw_at lw_m12 122 rfl) rfl
theorem lk_J2_1 : xLk RJ2 1 yJ1_init_2 := Or.inl q2958
theorem dX0_run_0 : decode cX0_run 0 = .ok (.iload_n 1, 1) := by decide +kernel
theorem dX0_run_1 : decode cX0_run 1 = .ok (.ifCond .lt 17, 3) := by decide +kernel
theorem dX0_run_4 : decode cX0_run 4 = .ok (.iload_n 1, 1) := by decide +kernel
theorem dX0_run_5 : decode cX0_run 5 = .ok (.sipush 1000, 3) := by decide +kernel
theorem dX0_run_8 : decode cX0_run 8 = .ok (.if_icmp .gt 10, 3) := by decide +kernel
theorem dX0_run_11 : decode cX0_run 11 = .ok (.aload_n 0, 1) := by decide +kernel
theorem dX0_run_12 : decode cX0_run 12 = .ok (.getfield 121, 3) := by decide +kernel
theorem dX0_run_15 : decode cX0_run 15 = .ok (.ifCond .ne 5, 3) := by decide +kernel
theorem dX0_run_18 : decode cX0_run 18 = .ok (.iconst (-1), 1) := by decide +kernel
theorem dX0_run_19 : decode cX0_run 19 = .ok (.ireturn, 1) := by decide +kernel
theorem dX0_run_20 : decode cX0_run 20 = .ok (.aload_n 0, 1) := by decide +kernel
theorem dX0_run_21 : decode cX0_run 21 = .ok (.getfield 121, 3) := by decide +kernel
theorem dX0_run_24 : decode cX0_run 24 = .ok (.iconst 2, 1) := by decide +kernel
theorem dX0_run_25 : decode cX0_run 25 = .ok (.if_icmp .le 8, 3) := by decide +kernel
theorem dX0_run_28 : decode cX0_run 28 = .ok (.aload_n 0, 1) := by decide +kernel
theorem dX0_run_29 : decode cX0_run 29 = .ok (.getfield 121, 3) := by decide +kernel
theorem dX0_run_32 : decode cX0_run 32 = .ok (.ireturn, 1) := by decide +kernel
theorem dX0_run_33 : decode cX0_run 33 = .ok (.aload_n 0, 1) := by decide +kernel
theorem dX0_run_34 : decode cX0_run 34 = .ok (.getfield 92, 3) := by decide +kernel
theorem dX0_run_37 : decode cX0_run 37 = .ok (.getfield 241, 3) := by decide +kernel
theorem dX0_run_40 : decode cX0_run 40 = .ok (.astore_n 2, 1) := by decide +kernel
theorem dX0_run_41 : decode cX0_run 41 = .ok (.aload_n 0, 1) := by decide +kernel
theorem dX0_run_42 : decode cX0_run 42 = .ok (.getfield 130, 3) := by decide +kernel
theorem dX0_run_45 : decode cX0_run 45 = .ok (.ifCond .ne 57, 3) := by decide +kernel
theorem dX0_run_48 : decode cX0_run 48 = .ok (.aload_n 0, 1) := by decide +kernel
theorem dX0_run_49 : decode cX0_run 49 = .ok (.getfield 41, 3) := by decide +kernel
theorem dX0_run_52 : decode cX0_run 52 = .ok (.invokevirtual 212, 3) := by decide +kernel
theorem dX0_run_55 : decode cX0_run 55 = .ok (.astore_n 3, 1) := by decide +kernel
theorem dX0_run_56 : decode cX0_run 56 = .ok (.aload_n 3, 1) := by decide +kernel
theorem dX0_run_57 : decode cX0_run 57 = .ok (.getfield 188, 3) := by decide +kernel
theorem dX0_run_60 : decode cX0_run 60 = .ok (.aload_n 0, 1) := by decide +kernel
theorem dX0_run_61 : decode cX0_run 61 = .ok (.getfield 127, 3) := by decide +kernel
theorem dX0_run_64 : decode cX0_run 64 = .ok (.if_icmp .le 22, 3) := by decide +kernel
theorem dX0_run_67 : decode cX0_run 67 = .ok (.aload_n 0, 1) := by decide +kernel
theorem dX0_run_68 : decode cX0_run 68 = .ok (.bipush 6, 2) := by decide +kernel
theorem dX0_run_70 : decode cX0_run 70 = .ok (.putfield 121, 3) := by decide +kernel
theorem dX0_run_73 : decode cX0_run 73 = .ok (.aload_n 0, 1) := by decide +kernel
theorem dX0_run_74 : decode cX0_run 74 = .ok (.aload_n 3, 1) := by decide +kernel
theorem dX0_run_75 : decode cX0_run 75 = .ok (.getfield 225, 3) := by decide +kernel
theorem dX0_run_78 : decode cX0_run 78 = .ok (.putfield 240, 3) := by decide +kernel
theorem dX0_run_81 : decode cX0_run 81 = .ok (.aload_n 0, 1) := by decide +kernel
theorem dX0_run_82 : decode cX0_run 82 = .ok (.getfield 121, 3) := by decide +kernel
theorem dX0_run_85 : decode cX0_run 85 = .ok (.ireturn, 1) := by decide +kernel
theorem dX0_run_86 : decode cX0_run 86 = .ok (.aload_n 0, 1) := by decide +kernel
theorem dX0_run_87 : decode cX0_run 87 = .ok (.aload_n 3, 1) := by decide +kernel
theorem dX0_run_88 : decode cX0_run 88 = .ok (.getfield 188, 3) := by decide +kernel
theorem dX0_run_91 : decode cX0_run 91 = .ok (.invokevirtual 244, 3) := by decide +kernel
theorem dX0_run_94 : decode cX0_run 94 = .ok (.aload_n 2, 1) := by decide +kernel
theorem dX0_run_95 : decode cX0_run 95 = .ok (.bipush 26, 2) := by decide +kernel
theorem dX0_run_97 : decode cX0_run 97 = .ok (.iload_n 1, 1) := by decide +kernel
theorem dX0_run_98 : decode cX0_run 98 = .ok (.iastore, 1) := by decide +kernel
theorem dX0_run_99 : decode cX0_run 99 = .ok (.goto 55, 3) := by decide +kernel
theorem dX0_run_102 : decode cX0_run 102 = .ok (.aload_n 0, 1) := by decide +kernel
theorem dX0_run_103 : decode cX0_run 103 = .ok (.getfield 121, 3) := by decide +kernel
theorem dX0_run_106 : decode cX0_run 106 = .ok (.iconst 2, 1) := by decide +kernel
theorem dX0_run_107 : decode cX0_run 107 = .ok (.if_icmp .ne 31, 3) := by decide +kernel
theorem dX0_run_110 : decode cX0_run 110 = .ok (.aload_n 0, 1) := by decide +kernel
theorem dX0_run_111 : decode cX0_run 111 = .ok (.getfield 115, 3) := by decide +kernel
theorem dX0_run_114 : decode cX0_run 114 = .ok (.ifCond .ne 8, 3) := by decide +kernel
theorem dX0_run_117 : decode cX0_run 117 = .ok (.aload_n 0, 1) := by decide +kernel
theorem dX0_run_118 : decode cX0_run 118 = .ok (.getfield 121, 3) := by decide +kernel
theorem dX0_run_121 : decode cX0_run 121 = .ok (.ireturn, 1) := by decide +kernel
theorem dX0_run_122 : decode cX0_run 122 = .ok (.aload_n 2, 1) := by decide +kernel
theorem dX0_run_123 : decode cX0_run 123 = .ok (.bipush 26, 2) := by decide +kernel
theorem dX0_run_125 : decode cX0_run 125 = .ok (.iload_n 1, 1) := by decide +kernel
theorem dX0_run_126 : decode cX0_run 126 = .ok (.iastore, 1) := by decide +kernel
theorem dX0_run_127 : decode cX0_run 127 = .ok (.aload_n 2, 1) := by decide +kernel
theorem dX0_run_128 : decode cX0_run 128 = .ok (.bipush 10, 2) := by decide +kernel
theorem dX0_run_130 : decode cX0_run 130 = .ok (.aload_n 0, 1) := by decide +kernel
theorem dX0_run_131 : decode cX0_run 131 = .ok (.invokevirtual 247, 3) := by decide +kernel
theorem dX0_run_134 : decode cX0_run 134 = .ok (.iastore, 1) := by decide +kernel
theorem dX0_run_135 : decode cX0_run 135 = .ok (.goto 19, 3) := by decide +kernel
theorem dX0_run_138 : decode cX0_run 138 = .ok (.iload_n 1, 1) := by decide +kernel
theorem dX0_run_139 : decode cX0_run 139 = .ok (.ifCond .ne 8, 3) := by decide +kernel
theorem dX0_run_142 : decode cX0_run 142 = .ok (.aload_n 0, 1) := by decide +kernel
theorem dX0_run_143 : decode cX0_run 143 = .ok (.getfield 121, 3) := by decide +kernel
theorem dX0_run_146 : decode cX0_run 146 = .ok (.ireturn, 1) := by decide +kernel
theorem dX0_run_147 : decode cX0_run 147 = .ok (.aload_n 2, 1) := by decide +kernel
theorem dX0_run_148 : decode cX0_run 148 = .ok (.bipush 26, 2) := by decide +kernel
theorem dX0_run_150 : decode cX0_run 150 = .ok (.iload_n 1, 1) := by decide +kernel
theorem dX0_run_151 : decode cX0_run 151 = .ok (.iconst 1, 1) := by decide +kernel
theorem dX0_run_152 : decode cX0_run 152 = .ok (.isub, 1) := by decide +kernel
theorem dX0_run_153 : decode cX0_run 153 = .ok (.iastore, 1) := by decide +kernel
theorem dX0_run_154 : decode cX0_run 154 = .ok (.aload_n 0, 1) := by decide +kernel
theorem dX0_run_155 : decode cX0_run 155 = .ok (.iconst 1, 1) := by decide +kernel
theorem dX0_run_156 : decode cX0_run 156 = .ok (.putfield 121, 3) := by decide +kernel
theorem dX0_run_159 : decode cX0_run 159 = .ok (.iconst 1, 1) := by decide +kernel
theorem dX0_run_160 : decode cX0_run 160 = .ok (.istore_n 3, 1) := by decide +kernel
theorem dX0_run_161 : decode cX0_run 161 = .ok (.iload_n 3, 1) := by decide +kernel
theorem dX0_run_162 : decode cX0_run 162 = .ok (.ifCond .eq 50, 3) := by decide +kernel
theorem dX0_run_165 : decode cX0_run 165 = .ok (.aload_n 0, 1) := by decide +kernel
theorem dX0_run_166 : decode cX0_run 166 = .ok (.getfield 92, 3) := by decide +kernel
theorem dX0_run_169 : decode cX0_run 169 = .ok (.sipush 1000, 3) := by decide +kernel
theorem dX0_run_172 : decode cX0_run 172 = .ok (.invokevirtual 250, 3) := by decide +kernel
theorem dX0_run_175 : decode cX0_run 175 = .ok (.istore 4, 2) := by decide +kernel
theorem dX0_run_177 : decode cX0_run 177 = .ok (.iload 4, 2) := by decide +kernel
theorem dX0_run_179 : decode cX0_run 179 = .ok (.bipush 6, 2) := by decide +kernel
theorem dX0_run_181 : decode cX0_run 181 = .ok (.if_icmp .ne 15, 3) := by decide +kernel
theorem dX0_run_184 : decode cX0_run 184 = .ok (.aload_n 0, 1) := by decide +kernel
theorem dX0_run_185 : decode cX0_run 185 = .ok (.aload_n 2, 1) := by decide +kernel
theorem dX0_run_186 : decode cX0_run 186 = .ok (.bipush 17, 2) := by decide +kernel
theorem dX0_run_188 : decode cX0_run 188 = .ok (.iaload, 1) := by decide +kernel
theorem dX0_run_189 : decode cX0_run 189 = .ok (.invokevirtual 254, 3) := by decide +kernel
theorem dX0_run_192 : decode cX0_run 192 = .ok (.istore_n 3, 1) := by decide +kernel
theorem dX0_run_193 : decode cX0_run 193 = .ok (.goto 16, 3) := by decide +kernel
theorem dX0_run_196 : decode cX0_run 196 = .ok (.iload 4, 2) := by decide +kernel
theorem dX0_run_198 : decode cX0_run 198 = .ok (.ifCond .eq 11, 3) := by decide +kernel
theorem dX0_run_201 : decode cX0_run 201 = .ok (.new 258, 3) := by decide +kernel
theorem dX0_run_204 : decode cX0_run 204 = .ok (.dup, 1) := by decide +kernel
theorem dX0_run_205 : decode cX0_run 205 = .ok (.invokespecial 260, 3) := by decide +kernel
theorem dX0_run_208 : decode cX0_run 208 = .ok (.athrow, 1) := by decide +kernel
theorem dX0_run_209 : decode cX0_run 209 = .ok (.goto (-48), 3) := by decide +kernel
theorem dX0_run_212 : decode cX0_run 212 = .ok (.aload_n 0, 1) := by decide +kernel
theorem dX0_run_213 : decode cX0_run 213 = .ok (.dup, 1) := by decide +kernel
theorem dX0_run_214 : decode cX0_run 214 = .ok (.getfield 124, 3) := by decide +kernel
theorem dX0_run_217 : decode cX0_run 217 = .ok (.iload_n 1, 1) := by decide +kernel
theorem dX0_run_218 : decode cX0_run 218 = .ok (.iconst 0, 1) := by decide +kernel
theorem dX0_run_219 : decode cX0_run 219 = .ok (.aload_n 2, 1) := by decide +kernel
theorem dX0_run_220 : decode cX0_run 220 = .ok (.bipush 26, 2) := by decide +kernel
theorem dX0_run_222 : decode cX0_run 222 = .ok (.iaload, 1) := by decide +kernel
theorem dX0_run_223 : decode cX0_run 223 = .ok (.invokestatic 3, 3) := by decide +kernel
theorem dX0_run_226 : decode cX0_run 226 = .ok (.isub, 1) := by decide +kernel
theorem dX0_run_227 : decode cX0_run 227 = .ok (.iadd, 1) := by decide +kernel
theorem dX0_run_228 : decode cX0_run 228 = .ok (.putfield 124, 3) := by decide +kernel
theorem dX0_run_231 : decode cX0_run 231 = .ok (.aload_n 0, 1) := by decide +kernel
theorem dX0_run_232 : decode cX0_run 232 = .ok (.getfield 121, 3) := by decide +kernel
theorem dX0_run_235 : decode cX0_run 235 = .ok (.ireturn, 1) := by decide +kernel
theorem dX0_start_0 : decode cX0_start 0 = .ok (.aload_n 0, 1) := by decide +kernel
theorem dX0_start_1 : decode cX0_start 1 = .ok (.getfield 92, 3) := by decide +kernel
theorem dX0_start_4 : decode cX0_start 4 = .ok (.getfield 241, 3) := by decide +kernel
theorem dX0_start_7 : decode cX0_start 7 = .ok (.astore_n 2, 1) := by decide +kernel
theorem dX0_start_8 : decode cX0_start 8 = .ok (.iconst 0, 1) := by decide +kernel
theorem dX0_start_9 : decode cX0_start 9 = .ok (.istore_n 3, 1) := by decide +kernel
theorem dX0_start_10 : decode cX0_start 10 = .ok (.iload_n 3, 1) := by decide +kernel
theorem dX0_start_11 : decode cX0_start 11 = .ok (.bipush 32, 2) := by decide +kernel
theorem dX0_start_13 : decode cX0_start 13 = .ok (.if_icmp .ge 13, 3) := by decide +kernel
theorem dX0_start_16 : decode cX0_start 16 = .ok (.aload_n 2, 1) := by decide +kernel
theorem dX0_start_17 : decode cX0_start 17 = .ok (.iload_n 3, 1) := by decide +kernel
theorem dX0_start_18 : decode cX0_start 18 = .ok (.iconst 0, 1) := by decide +kernel
theorem dX0_start_19 : decode cX0_start 19 = .ok (.iastore, 1) := by decide +kernel
theorem dX0_start_20 : decode cX0_start 20 = .ok (.iinc 3 1, 3) := by decide +kernel
theorem dX0_start_23 : decode cX0_start 23 = .ok (.goto (-13), 3) := by decide +kernel
theorem dX0_start_26 : decode cX0_start 26 = .ok (.aload_n 2, 1) := by decide +kernel
theorem dX0_start_27 : decode cX0_start 27 = .ok (.iconst 1, 1) := by decide +kernel
theorem dX0_start_28 : decode cX0_start 28 = .ok (.sipush 8192, 3) := by decide +kernel
theorem dX0_start_31 : decode cX0_start 31 = .ok (.iastore, 1) := by decide +kernel
theorem dX0_start_32 : decode cX0_start 32 = .ok (.aload_n 2, 1) := by decide +kernel
theorem dX0_start_33 : decode cX0_start 33 = .ok (.iconst 2, 1) := by decide +kernel
theorem dX0_start_34 : decode cX0_start 34 = .ok (.iconst 4, 1) := by decide +kernel
theorem dX0_start_35 : decode cX0_start 35 = .ok (.aload_n 0, 1) := by decide +kernel
theorem dX0_start_36 : decode cX0_start 36 = .ok (.getfield 92, 3) := by decide +kernel
theorem dX0_start_39 : decode cX0_start 39 = .ok (.getfield 99, 3) := by decide +kernel
theorem dX0_start_42 : decode cX0_start 42 = .ok (.arraylength, 1) := by decide +kernel
theorem dX0_start_43 : decode cX0_start 43 = .ok (.imul, 1) := by decide +kernel
theorem dX0_start_44 : decode cX0_start 44 = .ok (.iastore, 1) := by decide +kernel
theorem dX0_start_45 : decode cX0_start 45 = .ok (.aload_n 2, 1) := by decide +kernel
theorem dX0_start_46 : decode cX0_start 46 = .ok (.iconst 4, 1) := by decide +kernel
theorem dX0_start_47 : decode cX0_start 47 = .ok (.aload_n 0, 1) := by decide +kernel
theorem dX0_start_48 : decode cX0_start 48 = .ok (.getfield 127, 3) := by decide +kernel
theorem dX0_start_51 : decode cX0_start 51 = .ok (.iastore, 1) := by decide +kernel
theorem dX0_start_52 : decode cX0_start 52 = .ok (.aload_n 2, 1) := by decide +kernel
theorem dX0_start_53 : decode cX0_start 53 = .ok (.bipush 27, 2) := by decide +kernel
theorem dX0_start_55 : decode cX0_start 55 = .ok (.iload_n 1, 1) := by decide +kernel
theorem dX0_start_56 : decode cX0_start 56 = .ok (.iastore, 1) := by decide +kernel
theorem dX0_start_57 : decode cX0_start 57 = .ok (.aload_n 0, 1) := by decide +kernel
theorem dX0_start_58 : decode cX0_start 58 = .ok (.getfield 92, 3) := by decide +kernel
theorem dX0_start_61 : decode cX0_start 61 = .ok (.aload_n 0, 1) := by decide +kernel
theorem dX0_start_62 : decode cX0_start 62 = .ok (.getfield 219, 3) := by decide +kernel
theorem dX0_start_65 : decode cX0_start 65 = .ok (.putfield 261, 3) := by decide +kernel
theorem dX0_start_68 : decode cX0_start 68 = .ok (.aload_n 0, 1) := by decide +kernel
theorem dX0_start_69 : decode cX0_start 69 = .ok (.iconst 1, 1) := by decide +kernel
theorem dX0_start_70 : decode cX0_start 70 = .ok (.putfield 130, 3) := by decide +kernel
theorem dX0_start_73 : decode cX0_start 73 = .ok (.return_, 1) := by decide +kernel
theorem dX0_next_0 : decode cX0_next 0 = .ok (.aload_n 0, 1) := by decide +kernel
theorem dX0_next_1 : decode cX0_next 1 = .ok (.getfield 82, 3) := by decide +kernel
theorem dX0_next_4 : decode cX0_next 4 = .ok (.iconst 0, 1) := by decide +kernel
theorem dX0_next_5 : decode cX0_next 5 = .ok (.iaload, 1) := by decide +kernel
theorem dX0_next_6 : decode cX0_next 6 = .ok (.istore_n 1, 1) := by decide +kernel
theorem dX0_next_7 : decode cX0_next 7 = .ok (.aload_n 0, 1) := by decide +kernel
theorem dX0_next_8 : decode cX0_next 8 = .ok (.dup, 1) := by decide +kernel
theorem dX0_next_9 : decode cX0_next 9 = .ok (.getfield 115, 3) := by decide +kernel
theorem dX0_next_12 : decode cX0_next 12 = .ok (.iconst 1, 1) := by decide +kernel
theorem dX0_next_13 : decode cX0_next 13 = .ok (.isub, 1) := by decide +kernel
theorem dX0_next_14 : decode cX0_next 14 = .ok (.putfield 115, 3) := by decide +kernel
theorem dX0_next_17 : decode cX0_next 17 = .ok (.iconst 0, 1) := by decide +kernel
theorem dX0_next_18 : decode cX0_next 18 = .ok (.istore_n 2, 1) := by decide +kernel
theorem dX0_next_19 : decode cX0_next 19 = .ok (.iload_n 2, 1) := by decide +kernel
theorem dX0_next_20 : decode cX0_next 20 = .ok (.aload_n 0, 1) := by decide +kernel
theorem dX0_next_21 : decode cX0_next 21 = .ok (.getfield 115, 3) := by decide +kernel
theorem dX0_next_24 : decode cX0_next 24 = .ok (.if_icmp .ge 23, 3) := by decide +kernel
theorem dX0_next_27 : decode cX0_next 27 = .ok (.aload_n 0, 1) := by decide +kernel
theorem dX0_next_28 : decode cX0_next 28 = .ok (.getfield 82, 3) := by decide +kernel
theorem dX0_next_31 : decode cX0_next 31 = .ok (.iload_n 2, 1) := by decide +kernel
theorem dX0_next_32 : decode cX0_next 32 = .ok (.aload_n 0, 1) := by decide +kernel
theorem dX0_next_33 : decode cX0_next 33 = .ok (.getfield 82, 3) := by decide +kernel
theorem dX0_next_36 : decode cX0_next 36 = .ok (.iload_n 2, 1) := by decide +kernel
theorem dX0_next_37 : decode cX0_next 37 = .ok (.iconst 1, 1) := by decide +kernel
theorem dX0_next_38 : decode cX0_next 38 = .ok (.iadd, 1) := by decide +kernel
theorem dX0_next_39 : decode cX0_next 39 = .ok (.iaload, 1) := by decide +kernel
theorem dX0_next_40 : decode cX0_next 40 = .ok (.iastore, 1) := by decide +kernel
theorem dX0_next_41 : decode cX0_next 41 = .ok (.iinc 2 1, 3) := by decide +kernel
theorem dX0_next_44 : decode cX0_next 44 = .ok (.goto (-25), 3) := by decide +kernel
theorem dX0_next_47 : decode cX0_next 47 = .ok (.iload_n 1, 1) := by decide +kernel
theorem dX0_next_48 : decode cX0_next 48 = .ok (.ireturn, 1) := by decide +kernel
theorem dX0_serve_0 : decode cX0_serve 0 = .ok (.aload_n 0, 1) := by decide +kernel
theorem dX0_serve_1 : decode cX0_serve 1 = .ok (.getfield 92, 3) := by decide +kernel
theorem dX0_serve_4 : decode cX0_serve 4 = .ok (.getfield 241, 3) := by decide +kernel
theorem dX0_serve_7 : decode cX0_serve 7 = .ok (.astore_n 2, 1) := by decide +kernel
theorem dX0_serve_8 : decode cX0_serve 8 = .ok (.iload_n 1, 1) := by decide +kernel
theorem dX0_serve_9 : decode cX0_serve 9 = .ok (.tableswitch 138 1 7 #[43, 45, 90, 114, 138, 138, 114], 43) := by decide +kernel
theorem dX0_serve_52 : decode cX0_serve 52 = .ok (.iconst 0, 1) := by decide +kernel
theorem dX0_serve_53 : decode cX0_serve 53 = .ok (.ireturn, 1) := by decide +kernel
theorem dX0_serve_54 : decode cX0_serve 54 = .ok (.aload_n 0, 1) := by decide +kernel
theorem dX0_serve_55 : decode cX0_serve 55 = .ok (.getfield 118, 3) := by decide +kernel
theorem dX0_serve_58 : decode cX0_serve 58 = .ok (.sipush 2000, 3) := by decide +kernel
theorem dX0_serve_61 : decode cX0_serve 61 = .ok (.if_icmp .ge 16, 3) := by decide +kernel
theorem dX0_serve_64 : decode cX0_serve 64 = .ok (.aload_n 0, 1) := by decide +kernel
theorem dX0_serve_65 : decode cX0_serve 65 = .ok (.getfield 86, 3) := by decide +kernel
theorem dX0_serve_68 : decode cX0_serve 68 = .ok (.aload_n 0, 1) := by decide +kernel
theorem dX0_serve_69 : decode cX0_serve 69 = .ok (.getfield 118, 3) := by decide +kernel
theorem dX0_serve_72 : decode cX0_serve 72 = .ok (.aload_n 2, 1) := by decide +kernel
theorem dX0_serve_73 : decode cX0_serve 73 = .ok (.bipush 10, 2) := by decide +kernel
theorem dX0_serve_75 : decode cX0_serve 75 = .ok (.iaload, 1) := by decide +kernel
theorem dX0_serve_76 : decode cX0_serve 76 = .ok (.iastore, 1) := by decide +kernel
theorem dX0_serve_77 : decode cX0_serve 77 = .ok (.aload_n 0, 1) := by decide +kernel
theorem dX0_serve_78 : decode cX0_serve 78 = .ok (.getfield 118, 3) := by decide +kernel
theorem dX0_serve_81 : decode cX0_serve 81 = .ok (.ldc_w 266, 3) := by decide +kernel
theorem dX0_serve_84 : decode cX0_serve 84 = .ok (.if_icmp .ge 13, 3) := by decide +kernel
theorem dX0_serve_87 : decode cX0_serve 87 = .ok (.aload_n 0, 1) := by decide +kernel
theorem dX0_serve_88 : decode cX0_serve 88 = .ok (.dup, 1) := by decide +kernel
theorem dX0_serve_89 : decode cX0_serve 89 = .ok (.getfield 118, 3) := by decide +kernel
theorem dX0_serve_92 : decode cX0_serve 92 = .ok (.iconst 1, 1) := by decide +kernel
theorem dX0_serve_93 : decode cX0_serve 93 = .ok (.iadd, 1) := by decide +kernel
theorem dX0_serve_94 : decode cX0_serve 94 = .ok (.putfield 118, 3) := by decide +kernel
theorem dX0_serve_97 : decode cX0_serve 97 = .ok (.iconst 1, 1) := by decide +kernel
theorem dX0_serve_98 : decode cX0_serve 98 = .ok (.ireturn, 1) := by decide +kernel
theorem dX0_serve_99 : decode cX0_serve 99 = .ok (.aload_n 0, 1) := by decide +kernel
theorem dX0_serve_100 : decode cX0_serve 100 = .ok (.getfield 115, 3) := by decide +kernel
theorem dX0_serve_103 : decode cX0_serve 103 = .ok (.ifCond .ne 10, 3) := by decide +kernel
theorem dX0_serve_106 : decode cX0_serve 106 = .ok (.aload_n 0, 1) := by decide +kernel
theorem dX0_serve_107 : decode cX0_serve 107 = .ok (.iconst 2, 1) := by decide +kernel
theorem dX0_serve_108 : decode cX0_serve 108 = .ok (.putfield 121, 3) := by decide +kernel
theorem dX0_serve_111 : decode cX0_serve 111 = .ok (.iconst 0, 1) := by decide +kernel
theorem dX0_serve_112 : decode cX0_serve 112 = .ok (.ireturn, 1) := by decide +kernel
theorem dX0_serve_113 : decode cX0_serve 113 = .ok (.aload_n 2, 1) := by decide +kernel
theorem dX0_serve_114 : decode cX0_serve 114 = .ok (.bipush 10, 2) := by decide +kernel
theorem dX0_serve_116 : decode cX0_serve 116 = .ok (.aload_n 0, 1) := by decide +kernel
theorem dX0_serve_117 : decode cX0_serve 117 = .ok (.invokevirtual 247, 3) := by decide +kernel
theorem dX0_serve_120 : decode cX0_serve 120 = .ok (.iastore, 1) := by decide +kernel
theorem dX0_serve_121 : decode cX0_serve 121 = .ok (.iconst 1, 1) := by decide +kernel
theorem dX0_serve_122 : decode cX0_serve 122 = .ok (.ireturn, 1) := by decide +kernel
theorem dX0_serve_123 : decode cX0_serve 123 = .ok (.aload_n 0, 1) := by decide +kernel
theorem dX0_serve_124 : decode cX0_serve 124 = .ok (.iload_n 1, 1) := by decide +kernel
theorem dX0_serve_125 : decode cX0_serve 125 = .ok (.iconst 4, 1) := by decide +kernel
theorem dX0_serve_126 : decode cX0_serve 126 = .ok (.if_icmp .ne 7, 3) := by decide +kernel
theorem dX0_serve_129 : decode cX0_serve 129 = .ok (.iconst 4, 1) := by decide +kernel
theorem dX0_serve_130 : decode cX0_serve 130 = .ok (.goto 4, 3) := by decide +kernel
theorem dX0_serve_133 : decode cX0_serve 133 = .ok (.iconst 3, 1) := by decide +kernel
theorem dX0_serve_134 : decode cX0_serve 134 = .ok (.putfield 121, 3) := by decide +kernel
theorem dX0_serve_137 : decode cX0_serve 137 = .ok (.aload_n 0, 1) := by decide +kernel
theorem dX0_serve_138 : decode cX0_serve 138 = .ok (.aload_n 2, 1) := by decide +kernel
theorem dX0_serve_139 : decode cX0_serve 139 = .ok (.bipush 10, 2) := by decide +kernel
theorem dX0_serve_141 : decode cX0_serve 141 = .ok (.iaload, 1) := by decide +kernel
theorem dX0_serve_142 : decode cX0_serve 142 = .ok (.putfield 237, 3) := by decide +kernel
theorem dX0_serve_145 : decode cX0_serve 145 = .ok (.iconst 0, 1) := by decide +kernel
theorem dX0_serve_146 : decode cX0_serve 146 = .ok (.ireturn, 1) := by decide +kernel
theorem dX0_serve_147 : decode cX0_serve 147 = .ok (.aload_n 0, 1) := by decide +kernel
theorem dX0_serve_148 : decode cX0_serve 148 = .ok (.iload_n 1, 1) := by decide +kernel
theorem dX0_serve_149 : decode cX0_serve 149 = .ok (.putfield 121, 3) := by decide +kernel
theorem dX0_serve_152 : decode cX0_serve 152 = .ok (.aload_n 0, 1) := by decide +kernel
theorem dX0_serve_153 : decode cX0_serve 153 = .ok (.aload_n 2, 1) := by decide +kernel
theorem dX0_serve_154 : decode cX0_serve 154 = .ok (.bipush 10, 2) := by decide +kernel
theorem dX0_serve_156 : decode cX0_serve 156 = .ok (.iaload, 1) := by decide +kernel
theorem dX0_serve_157 : decode cX0_serve 157 = .ok (.putfield 240, 3) := by decide +kernel
theorem dX0_serve_160 : decode cX0_serve 160 = .ok (.iconst 0, 1) := by decide +kernel
theorem dX0_serve_161 : decode cX0_serve 161 = .ok (.ireturn, 1) := by decide +kernel
theorem dX0_output_0 : decode cX0_output 0 = .ok (.iload_n 1, 1) := by decide +kernel
theorem dX0_output_1 : decode cX0_output 1 = .ok (.ifCond .lt 18, 3) := by decide +kernel
theorem dX0_output_4 : decode cX0_output 4 = .ok (.iload_n 1, 1) := by decide +kernel
theorem dX0_output_5 : decode cX0_output 5 = .ok (.aload_n 0, 1) := by decide +kernel
theorem dX0_output_6 : decode cX0_output 6 = .ok (.getfield 118, 3) := by decide +kernel
theorem dX0_output_9 : decode cX0_output 9 = .ok (.if_icmp .ge 10, 3) := by decide +kernel
theorem dX0_output_12 : decode cX0_output 12 = .ok (.iload_n 1, 1) := by decide +kernel
theorem dX0_output_13 : decode cX0_output 13 = .ok (.sipush 2000, 3) := by decide +kernel
theorem dX0_output_16 : decode cX0_output 16 = .ok (.if_icmp .lt 7, 3) := by decide +kernel
theorem dX0_output_19 : decode cX0_output 19 = .ok (.iconst 0, 1) := by decide +kernel
theorem dX0_output_20 : decode cX0_output 20 = .ok (.goto 9, 3) := by decide +kernel
theorem dX0_output_23 : decode cX0_output 23 = .ok (.aload_n 0, 1) := by decide +kernel
theorem dX0_output_24 : decode cX0_output 24 = .ok (.getfield 86, 3) := by decide +kernel
theorem dX0_output_27 : decode cX0_output 27 = .ok (.iload_n 1, 1) := by decide +kernel
theorem dX0_output_28 : decode cX0_output 28 = .ok (.iaload, 1) := by decide +kernel
theorem dX0_output_29 : decode cX0_output 29 = .ok (.ireturn, 1) := by decide +kernel
theorem dX0_world_0 : decode cX0_world 0 = .ok (.iload_n 1, 1) := by decide +kernel
theorem dX0_world_1 : decode cX0_world 1 = .ok (.tableswitch 153 0 7 #[47, 52, 57, 62, 67, 92, 118, 148], 47) := by decide +kernel
theorem dX0_world_48 : decode cX0_world 48 = .ok (.aload_n 0, 1) := by decide +kernel
theorem dX0_world_49 : decode cX0_world 49 = .ok (.getfield 121, 3) := by decide +kernel
theorem dX0_world_52 : decode cX0_world 52 = .ok (.ireturn, 1) := by decide +kernel
theorem dX0_world_53 : decode cX0_world 53 = .ok (.aload_n 0, 1) := by decide +kernel
theorem dX0_world_54 : decode cX0_world 54 = .ok (.getfield 124, 3) := by decide +kernel
theorem dX0_world_57 : decode cX0_world 57 = .ok (.ireturn, 1) := by decide +kernel
theorem dX0_world_58 : decode cX0_world 58 = .ok (.aload_n 0, 1) := by decide +kernel
theorem dX0_world_59 : decode cX0_world 59 = .ok (.getfield 118, 3) := by decide +kernel
theorem dX0_world_62 : decode cX0_world 62 = .ok (.ireturn, 1) := by decide +kernel
theorem dX0_world_63 : decode cX0_world 63 = .ok (.aload_n 0, 1) := by decide +kernel
theorem dX0_world_64 : decode cX0_world 64 = .ok (.getfield 115, 3) := by decide +kernel
theorem dX0_world_67 : decode cX0_world 67 = .ok (.ireturn, 1) := by decide +kernel
theorem dX0_world_68 : decode cX0_world 68 = .ok (.aload_n 0, 1) := by decide +kernel
theorem dX0_world_69 : decode cX0_world 69 = .ok (.getfield 121, 3) := by decide +kernel
theorem dX0_world_72 : decode cX0_world 72 = .ok (.iconst 3, 1) := by decide +kernel
theorem dX0_world_73 : decode cX0_world 73 = .ok (.if_icmp .eq 11, 3) := by decide +kernel
theorem dX0_world_76 : decode cX0_world 76 = .ok (.aload_n 0, 1) := by decide +kernel
theorem dX0_world_77 : decode cX0_world 77 = .ok (.getfield 121, 3) := by decide +kernel
theorem dX0_world_80 : decode cX0_world 80 = .ok (.iconst 4, 1) := by decide +kernel
theorem dX0_world_81 : decode cX0_world 81 = .ok (.if_icmp .ne 10, 3) := by decide +kernel
theorem dX0_world_84 : decode cX0_world 84 = .ok (.aload_n 0, 1) := by decide +kernel
theorem dX0_world_85 : decode cX0_world 85 = .ok (.getfield 237, 3) := by decide +kernel
theorem dX0_world_88 : decode cX0_world 88 = .ok (.goto 4, 3) := by decide +kernel
theorem dX0_world_91 : decode cX0_world 91 = .ok (.iconst 0, 1) := by decide +kernel
theorem dX0_world_92 : decode cX0_world 92 = .ok (.ireturn, 1) := by decide +kernel
theorem dX0_world_93 : decode cX0_world 93 = .ok (.aload_n 0, 1) := by decide +kernel
theorem dX0_world_94 : decode cX0_world 94 = .ok (.getfield 121, 3) := by decide +kernel
theorem dX0_world_97 : decode cX0_world 97 = .ok (.iconst 5, 1) := by decide +kernel
theorem dX0_world_98 : decode cX0_world 98 = .ok (.if_icmp .eq 12, 3) := by decide +kernel
theorem dX0_world_101 : decode cX0_world 101 = .ok (.aload_n 0, 1) := by decide +kernel
theorem dX0_world_102 : decode cX0_world 102 = .ok (.getfield 121, 3) := by decide +kernel
theorem dX0_world_105 : decode cX0_world 105 = .ok (.bipush 6, 2) := by decide +kernel
theorem dX0_world_107 : decode cX0_world 107 = .ok (.if_icmp .ne 10, 3) := by decide +kernel
theorem dX0_world_110 : decode cX0_world 110 = .ok (.aload_n 0, 1) := by decide +kernel
theorem dX0_world_111 : decode cX0_world 111 = .ok (.getfield 240, 3) := by decide +kernel
theorem dX0_world_114 : decode cX0_world 114 = .ok (.goto 4, 3) := by decide +kernel
theorem dX0_world_117 : decode cX0_world 117 = .ok (.iconst (-1), 1) := by decide +kernel
theorem dX0_world_118 : decode cX0_world 118 = .ok (.ireturn, 1) := by decide +kernel
theorem dX0_world_119 : decode cX0_world 119 = .ok (.aload_n 0, 1) := by decide +kernel
theorem dX0_world_120 : decode cX0_world 120 = .ok (.getfield 130, 3) := by decide +kernel
theorem dX0_world_123 : decode cX0_world 123 = .ok (.ifCond .eq 24, 3) := by decide +kernel
theorem dX0_world_126 : decode cX0_world 126 = .ok (.aload_n 0, 1) := by decide +kernel
theorem dX0_world_127 : decode cX0_world 127 = .ok (.getfield 121, 3) := by decide +kernel
theorem dX0_world_130 : decode cX0_world 130 = .ok (.iconst 3, 1) := by decide +kernel
theorem dX0_world_131 : decode cX0_world 131 = .ok (.if_icmp .eq 16, 3) := by decide +kernel
theorem dX0_world_134 : decode cX0_world 134 = .ok (.aload_n 0, 1) := by decide +kernel
theorem dX0_world_135 : decode cX0_world 135 = .ok (.getfield 92, 3) := by decide +kernel
theorem dX0_world_138 : decode cX0_world 138 = .ok (.getfield 241, 3) := by decide +kernel
theorem dX0_world_141 : decode cX0_world 141 = .ok (.bipush 27, 2) := by decide +kernel
theorem dX0_world_143 : decode cX0_world 143 = .ok (.iaload, 1) := by decide +kernel
theorem dX0_world_144 : decode cX0_world 144 = .ok (.goto 4, 3) := by decide +kernel
theorem dX0_world_147 : decode cX0_world 147 = .ok (.iconst 0, 1) := by decide +kernel
theorem dX0_world_148 : decode cX0_world 148 = .ok (.ireturn, 1) := by decide +kernel
theorem dX0_world_149 : decode cX0_world 149 = .ok (.aload_n 0, 1) := by decide +kernel
theorem dX0_world_150 : decode cX0_world 150 = .ok (.getfield 127, 3) := by decide +kernel
theorem dX0_world_153 : decode cX0_world 153 = .ok (.ireturn, 1) := by decide +kernel
theorem dX0_world_154 : decode cX0_world 154 = .ok (.iconst (-1), 1) := by decide +kernel
theorem dX0_world_155 : decode cX0_world 155 = .ok (.ireturn, 1) := by decide +kernel
theorem dX0_global_0 : decode cX0_global 0 = .ok (.aload_n 0, 1) := by decide +kernel
theorem dX0_global_1 : decode cX0_global 1 = .ok (.getfield 109, 3) := by decide +kernel
theorem dX0_global_4 : decode cX0_global 4 = .ok (.ifnull 18, 3) := by decide +kernel
theorem dX0_global_7 : decode cX0_global 7 = .ok (.iload_n 1, 1) := by decide +kernel
theorem dX0_global_8 : decode cX0_global 8 = .ok (.ifCond .lt 14, 3) := by decide +kernel
theorem dX0_global_11 : decode cX0_global 11 = .ok (.iload_n 1, 1) := by decide +kernel
theorem dX0_global_12 : decode cX0_global 12 = .ok (.aload_n 0, 1) := by decide +kernel
theorem dX0_global_13 : decode cX0_global 13 = .ok (.getfield 41, 3) := by decide +kernel
theorem dX0_global_16 : decode cX0_global 16 = .ok (.getfield 222, 3) := by decide +kernel
theorem dX0_global_19 : decode cX0_global 19 = .ok (.if_icmp .lt 5, 3) := by decide +kernel
theorem dX0_global_22 : decode cX0_global 22 = .ok (.iconst 0, 1) := by decide +kernel
theorem dX0_global_23 : decode cX0_global 23 = .ok (.ireturn, 1) := by decide +kernel
theorem dX0_global_24 : decode cX0_global 24 = .ok (.aload_n 0, 1) := by decide +kernel
theorem dX0_global_25 : decode cX0_global 25 = .ok (.getfield 121, 3) := by decide +kernel
theorem dX0_global_28 : decode cX0_global 28 = .ok (.ifCond .ne 15, 3) := by decide +kernel
theorem dX0_global_31 : decode cX0_global 31 = .ok (.aload_n 0, 1) := by decide +kernel
theorem dX0_global_32 : decode cX0_global 32 = .ok (.getfield 41, 3) := by decide +kernel
theorem dX0_global_35 : decode cX0_global 35 = .ok (.getfield 234, 3) := by decide +kernel
theorem dX0_global_38 : decode cX0_global 38 = .ok (.iload_n 1, 1) := by decide +kernel
theorem dX0_global_39 : decode cX0_global 39 = .ok (.iaload, 1) := by decide +kernel
theorem dX0_global_40 : decode cX0_global 40 = .ok (.goto 12, 3) := by decide +kernel
theorem dX0_global_43 : decode cX0_global 43 = .ok (.aload_n 0, 1) := by decide +kernel
theorem dX0_global_44 : decode cX0_global 44 = .ok (.getfield 92, 3) := by decide +kernel
theorem dX0_global_47 : decode cX0_global 47 = .ok (.getfield 99, 3) := by decide +kernel
theorem dX0_global_50 : decode cX0_global 50 = .ok (.iload_n 1, 1) := by decide +kernel
theorem dX0_global_51 : decode cX0_global 51 = .ok (.iaload, 1) := by decide +kernel
theorem dX0_global_52 : decode cX0_global 52 = .ok (.ireturn, 1) := by decide +kernel
theorem dX0_put_0 : decode cX0_put 0 = .ok (.iload_n 1, 1) := by decide +kernel
theorem dX0_put_1 : decode cX0_put 1 = .ok (.iconst 3, 1) := by decide +kernel
theorem dX0_put_2 : decode cX0_put 2 = .ok (.iand, 1) := by decide +kernel
theorem dX0_put_3 : decode cX0_put 3 = .ok (.ifCond .ne 14, 3) := by decide +kernel
theorem dX0_put_6 : decode cX0_put 6 = .ok (.iload_n 1, 1) := by decide +kernel
theorem dX0_put_7 : decode cX0_put 7 = .ok (.ifCond .lt 10, 3) := by decide +kernel
theorem dX0_put_10 : decode cX0_put 10 = .ok (.iload_n 1, 1) := by decide +kernel
theorem dX0_put_11 : decode cX0_put 11 = .ok (.sipush 16384, 3) := by decide +kernel
theorem dX0_put_14 : decode cX0_put 14 = .ok (.if_icmp .lt 5, 3) := by decide +kernel
theorem dX0_put_17 : decode cX0_put 17 = .ok (.iconst 0, 1) := by decide +kernel
theorem dX0_put_18 : decode cX0_put 18 = .ok (.ireturn, 1) := by decide +kernel
theorem dX0_put_19 : decode cX0_put 19 = .ok (.aload_n 0, 1) := by decide +kernel
theorem dX0_put_20 : decode cX0_put 20 = .ok (.getfield 96, 3) := by decide +kernel
theorem dX0_put_23 : decode cX0_put 23 = .ok (.getfield 99, 3) := by decide +kernel
theorem dX0_put_26 : decode cX0_put 26 = .ok (.iload_n 1, 1) := by decide +kernel
theorem dX0_put_27 : decode cX0_put 27 = .ok (.iconst 2, 1) := by decide +kernel
theorem dX0_put_28 : decode cX0_put 28 = .ok (.ishr, 1) := by decide +kernel
theorem dX0_put_29 : decode cX0_put 29 = .ok (.iload_n 2, 1) := by decide +kernel
theorem dX0_put_30 : decode cX0_put 30 = .ok (.iastore, 1) := by decide +kernel
theorem dX0_put_31 : decode cX0_put 31 = .ok (.iconst 1, 1) := by decide +kernel
theorem dX0_put_32 : decode cX0_put 32 = .ok (.ireturn, 1) := by decide +kernel
theorem dX0_set_0 : decode cX0_set 0 = .ok (.iload_n 1, 1) := by decide +kernel
theorem dX0_set_1 : decode cX0_set 1 = .ok (.iconst 1, 1) := by decide +kernel
theorem dX0_set_2 : decode cX0_set 2 = .ok (.if_icmp .lt 9, 3) := by decide +kernel
theorem dX0_set_5 : decode cX0_set 5 = .ok (.iload_n 1, 1) := by decide +kernel
theorem dX0_set_6 : decode cX0_set 6 = .ok (.bipush 32, 2) := by decide +kernel
theorem dX0_set_8 : decode cX0_set 8 = .ok (.if_icmp .le 5, 3) := by decide +kernel
theorem dX0_set_11 : decode cX0_set 11 = .ok (.iconst 0, 1) := by decide +kernel
theorem dX0_set_12 : decode cX0_set 12 = .ok (.ireturn, 1) := by decide +kernel
theorem dX0_set_13 : decode cX0_set 13 = .ok (.iload_n 1, 1) := by decide +kernel
theorem dX0_set_14 : decode cX0_set 14 = .ok (.bipush 32, 2) := by decide +kernel
theorem dX0_set_16 : decode cX0_set 16 = .ok (.if_icmp .ne 14, 3) := by decide +kernel
theorem dX0_set_19 : decode cX0_set 19 = .ok (.aload_n 0, 1) := by decide +kernel
theorem dX0_set_20 : decode cX0_set 20 = .ok (.getfield 96, 3) := by decide +kernel
theorem dX0_set_23 : decode cX0_set 23 = .ok (.iload_n 2, 1) := by decide +kernel
theorem dX0_set_24 : decode cX0_set 24 = .ok (.putfield 261, 3) := by decide +kernel
theorem dX0_set_27 : decode cX0_set 27 = .ok (.goto 13, 3) := by decide +kernel
theorem dX0_set_30 : decode cX0_set 30 = .ok (.aload_n 0, 1) := by decide +kernel
theorem dX0_set_31 : decode cX0_set 31 = .ok (.getfield 96, 3) := by decide +kernel
theorem dX0_set_34 : decode cX0_set 34 = .ok (.getfield 241, 3) := by decide +kernel
theorem dX0_set_37 : decode cX0_set 37 = .ok (.iload_n 1, 1) := by decide +kernel
theorem dX0_set_38 : decode cX0_set 38 = .ok (.iload_n 2, 1) := by decide +kernel
theorem dX0_set_39 : decode cX0_set 39 = .ok (.iastore, 1) := by decide +kernel
theorem dX0_set_40 : decode cX0_set 40 = .ok (.iconst 1, 1) := by decide +kernel
theorem dX0_set_41 : decode cX0_set 41 = .ok (.ireturn, 1) := by decide +kernel
theorem dX0_go_0 : decode cX0_go 0 = .ok (.iload_n 1, 1) := by decide +kernel
theorem dX0_go_1 : decode cX0_go 1 = .ok (.iconst 1, 1) := by decide +kernel
theorem dX0_go_2 : decode cX0_go 2 = .ok (.if_icmp .lt 10, 3) := by decide +kernel
theorem dX0_go_5 : decode cX0_go 5 = .ok (.iload_n 1, 1) := by decide +kernel
theorem dX0_go_6 : decode cX0_go 6 = .ok (.sipush 1000, 3) := by decide +kernel
theorem dX0_go_9 : decode cX0_go 9 = .ok (.if_icmp .le 7, 3) := by decide +kernel
theorem dX0_go_12 : decode cX0_go 12 = .ok (.iconst (-1), 1) := by decide +kernel
theorem dX0_go_13 : decode cX0_go 13 = .ok (.goto 11, 3) := by decide +kernel
theorem dX0_go_16 : decode cX0_go 16 = .ok (.aload_n 0, 1) := by decide +kernel
theorem dX0_go_17 : decode cX0_go 17 = .ok (.getfield 96, 3) := by decide +kernel
theorem dX0_go_20 : decode cX0_go 20 = .ok (.iload_n 1, 1) := by decide +kernel
theorem dX0_go_21 : decode cX0_go 21 = .ok (.invokevirtual 250, 3) := by decide +kernel
theorem dX0_go_24 : decode cX0_go 24 = .ok (.ireturn, 1) := by decide +kernel
theorem dX0_board_0 : decode cX0_board 0 = .ok (.iload_n 1, 1) := by decide +kernel
theorem dX0_board_1 : decode cX0_board 1 = .ok (.bipush 32, 2) := by decide +kernel
theorem dX0_board_3 : decode cX0_board 3 = .ok (.if_icmp .ne 11, 3) := by decide +kernel
theorem dX0_board_6 : decode cX0_board 6 = .ok (.aload_n 0, 1) := by decide +kernel
theorem dX0_board_7 : decode cX0_board 7 = .ok (.getfield 96, 3) := by decide +kernel
theorem dX0_board_10 : decode cX0_board 10 = .ok (.getfield 261, 3) := by decide +kernel
theorem dX0_board_13 : decode cX0_board 13 = .ok (.ireturn, 1) := by decide +kernel
theorem dX0_board_14 : decode cX0_board 14 = .ok (.iload_n 1, 1) := by decide +kernel
theorem dX0_board_15 : decode cX0_board 15 = .ok (.bipush 33, 2) := by decide +kernel
theorem dX0_board_17 : decode cX0_board 17 = .ok (.if_icmp .ne 11, 3) := by decide +kernel
theorem dX0_board_20 : decode cX0_board 20 = .ok (.aload_n 0, 1) := by decide +kernel
theorem dX0_board_21 : decode cX0_board 21 = .ok (.getfield 96, 3) := by decide +kernel
theorem dX0_board_24 : decode cX0_board 24 = .ok (.getfield 267, 3) := by decide +kernel
theorem dX0_board_27 : decode cX0_board 27 = .ok (.ireturn, 1) := by decide +kernel
theorem dX0_board_28 : decode cX0_board 28 = .ok (.iload_n 1, 1) := by decide +kernel
theorem dX0_board_29 : decode cX0_board 29 = .ok (.ifCond .lt 19, 3) := by decide +kernel
theorem dX0_board_32 : decode cX0_board 32 = .ok (.iload_n 1, 1) := by decide +kernel
theorem dX0_board_33 : decode cX0_board 33 = .ok (.bipush 32, 2) := by decide +kernel
theorem dX0_board_35 : decode cX0_board 35 = .ok (.if_icmp .ge 13, 3) := by decide +kernel
theorem dX0_board_38 : decode cX0_board 38 = .ok (.aload_n 0, 1) := by decide +kernel
theorem dX0_board_39 : decode cX0_board 39 = .ok (.getfield 96, 3) := by decide +kernel
theorem dX0_board_42 : decode cX0_board 42 = .ok (.getfield 241, 3) := by decide +kernel
theorem dX0_board_45 : decode cX0_board 45 = .ok (.iload_n 1, 1) := by decide +kernel
theorem dX0_board_46 : decode cX0_board 46 = .ok (.iaload, 1) := by decide +kernel
theorem dX0_board_47 : decode cX0_board 47 = .ok (.ireturn, 1) := by decide +kernel
theorem dX0_board_48 : decode cX0_board 48 = .ok (.iload_n 1, 1) := by decide +kernel
theorem dX0_board_49 : decode cX0_board 49 = .ok (.bipush 100, 2) := by decide +kernel
theorem dX0_board_51 : decode cX0_board 51 = .ok (.if_icmp .lt 25, 3) := by decide +kernel
theorem dX0_board_54 : decode cX0_board 54 = .ok (.iload_n 1, 1) := by decide +kernel
theorem dX0_board_55 : decode cX0_board 55 = .ok (.sipush 4196, 3) := by decide +kernel
theorem dX0_board_58 : decode cX0_board 58 = .ok (.if_icmp .ge 18, 3) := by decide +kernel
theorem dX0_board_61 : decode cX0_board 61 = .ok (.aload_n 0, 1) := by decide +kernel
theorem dX0_board_62 : decode cX0_board 62 = .ok (.getfield 96, 3) := by decide +kernel
theorem dX0_board_65 : decode cX0_board 65 = .ok (.getfield 99, 3) := by decide +kernel
theorem dX0_board_68 : decode cX0_board 68 = .ok (.iload_n 1, 1) := by decide +kernel
theorem dX0_board_69 : decode cX0_board 69 = .ok (.bipush 100, 2) := by decide +kernel
theorem dX0_board_71 : decode cX0_board 71 = .ok (.isub, 1) := by decide +kernel
theorem dX0_board_72 : decode cX0_board 72 = .ok (.iaload, 1) := by decide +kernel
theorem dX0_board_73 : decode cX0_board 73 = .ok (.goto 4, 3) := by decide +kernel
theorem dX0_board_76 : decode cX0_board 76 = .ok (.iconst (-1), 1) := by decide +kernel
theorem dX0_board_77 : decode cX0_board 77 = .ok (.ireturn, 1) := by decide +kernel
theorem dJ15_valueOf_0 : decode cJ15_valueOf 0 = .ok (.iload_n 0, 1) := by decide +kernel
theorem dJ15_valueOf_1 : decode cJ15_valueOf 1 = .ok (.bipush (-128), 2) := by decide +kernel
theorem dJ15_valueOf_3 : decode cJ15_valueOf 3 = .ok (.if_icmp .lt 20, 3) := by decide +kernel
theorem dJ15_valueOf_6 : decode cJ15_valueOf 6 = .ok (.iload_n 0, 1) := by decide +kernel
theorem dJ15_valueOf_7 : decode cJ15_valueOf 7 = .ok (.getstatic 191, 3) := by decide +kernel
theorem dJ15_valueOf_10 : decode cJ15_valueOf 10 = .ok (.if_icmp .gt 13, 3) := by decide +kernel
theorem dJ15_valueOf_13 : decode cJ15_valueOf 13 = .ok (.getstatic 195, 3) := by decide +kernel
theorem dJ15_valueOf_16 : decode cJ15_valueOf 16 = .ok (.iload_n 0, 1) := by decide +kernel
theorem dJ15_valueOf_17 : decode cJ15_valueOf 17 = .ok (.sipush 128, 3) := by decide +kernel
theorem dJ15_valueOf_20 : decode cJ15_valueOf 20 = .ok (.iadd, 1) := by decide +kernel
theorem dJ15_valueOf_21 : decode cJ15_valueOf 21 = .ok (.aaload, 1) := by decide +kernel
theorem dJ15_valueOf_22 : decode cJ15_valueOf 22 = .ok (.areturn, 1) := by decide +kernel
theorem dJ15_valueOf_23 : decode cJ15_valueOf 23 = .ok (.new 1, 3) := by decide +kernel
theorem dJ15_valueOf_26 : decode cJ15_valueOf 26 = .ok (.dup, 1) := by decide +kernel
theorem dJ15_valueOf_27 : decode cJ15_valueOf 27 = .ok (.iload_n 0, 1) := by decide +kernel
theorem dJ15_valueOf_28 : decode cJ15_valueOf 28 = .ok (.invokespecial 199, 3) := by decide +kernel
theorem dJ15_valueOf_31 : decode cJ15_valueOf 31 = .ok (.areturn, 1) := by decide +kernel
theorem dJ15_init_0 : decode cJ15_init 0 = .ok (.aload_n 0, 1) := by decide +kernel
theorem dJ15_init_1 : decode cJ15_init 1 = .ok (.invokespecial 202, 3) := by decide +kernel
theorem dJ15_init_4 : decode cJ15_init 4 = .ok (.aload_n 0, 1) := by decide +kernel
theorem dJ15_init_5 : decode cJ15_init 5 = .ok (.iload_n 1, 1) := by decide +kernel
theorem dJ15_init_6 : decode cJ15_init 6 = .ok (.putfield 205, 3) := by decide +kernel
theorem dJ15_init_9 : decode cJ15_init 9 = .ok (.return_, 1) := by decide +kernel
theorem dJ15_intValue_0 : decode cJ15_intValue 0 = .ok (.aload_n 0, 1) := by decide +kernel
theorem dJ15_intValue_1 : decode cJ15_intValue 1 = .ok (.getfield 205, 3) := by decide +kernel
theorem dJ15_intValue_4 : decode cJ15_intValue 4 = .ok (.ireturn, 1) := by decide +kernel
theorem dJ14_init_0 : decode cJ14_init 0 = .ok (.aload_n 0, 1) := by decide +kernel
theorem dJ14_init_1 : decode cJ14_init 1 = .ok (.invokespecial 1, 3) := by decide +kernel
theorem dJ14_init_4 : decode cJ14_init 4 = .ok (.return_, 1) := by decide +kernel
theorem dX3_init_0 : decode cX3_init 0 = .ok (.aload_n 0, 1) := by decide +kernel
theorem dX3_init_1 : decode cX3_init 1 = .ok (.aconst_null, 1) := by decide +kernel
theorem dX3_init_2 : decode cX3_init 2 = .ok (.aconst_null, 1) := by decide +kernel
theorem dX3_init_3 : decode cX3_init 3 = .ok (.iconst 0, 1) := by decide +kernel
theorem dX3_init_4 : decode cX3_init 4 = .ok (.iconst 0, 1) := by decide +kernel
theorem dX3_init_5 : decode cX3_init 5 = .ok (.invokespecial 1, 3) := by decide +kernel
theorem dX3_init_8 : decode cX3_init 8 = .ok (.return_, 1) := by decide +kernel
theorem dJ0_init_0 : decode cJ0_init 0 = .ok (.aload_n 0, 1) := by decide +kernel
theorem dJ0_init_1 : decode cJ0_init 1 = .ok (.invokespecial 1, 3) := by decide +kernel
theorem dJ0_init_4 : decode cJ0_init 4 = .ok (.aload_n 0, 1) := by decide +kernel
theorem dJ0_init_5 : decode cJ0_init 5 = .ok (.aload_n 0, 1) := by decide +kernel
theorem dJ0_init_6 : decode cJ0_init 6 = .ok (.putfield 7, 3) := by decide +kernel
theorem dJ0_init_9 : decode cJ0_init 9 = .ok (.aload_n 0, 1) := by decide +kernel
theorem dJ0_init_10 : decode cJ0_init 10 = .ok (.getstatic 13, 3) := by decide +kernel
theorem dJ0_init_13 : decode cJ0_init 13 = .ok (.putfield 17, 3) := by decide +kernel
theorem dJ0_init_16 : decode cJ0_init 16 = .ok (.aload_n 0, 1) := by decide +kernel
theorem dJ0_init_17 : decode cJ0_init 17 = .ok (.getstatic 20, 3) := by decide +kernel
theorem dJ0_init_20 : decode cJ0_init 20 = .ok (.putfield 24, 3) := by decide +kernel
theorem dJ0_init_23 : decode cJ0_init 23 = .ok (.aload_n 0, 1) := by decide +kernel
theorem dJ0_init_24 : decode cJ0_init 24 = .ok (.invokevirtual 27, 3) := by decide +kernel
theorem dJ0_init_27 : decode cJ0_init 27 = .ok (.pop, 1) := by decide +kernel
theorem dJ0_init_28 : decode cJ0_init 28 = .ok (.return_, 1) := by decide +kernel
theorem dJ0_init_2_0 : decode cJ0_init_2 0 = .ok (.aload_n 0, 1) := by decide +kernel
theorem dJ0_init_2_1 : decode cJ0_init_2 1 = .ok (.invokespecial 1, 3) := by decide +kernel
theorem dJ0_init_2_4 : decode cJ0_init_2 4 = .ok (.aload_n 0, 1) := by decide +kernel
theorem dJ0_init_2_5 : decode cJ0_init_2 5 = .ok (.aload_n 0, 1) := by decide +kernel
theorem dJ0_init_2_6 : decode cJ0_init_2 6 = .ok (.putfield 7, 3) := by decide +kernel
theorem dJ0_init_2_9 : decode cJ0_init_2 9 = .ok (.aload_n 0, 1) := by decide +kernel
theorem dJ0_init_2_10 : decode cJ0_init_2 10 = .ok (.getstatic 13, 3) := by decide +kernel
theorem dJ0_init_2_13 : decode cJ0_init_2 13 = .ok (.putfield 17, 3) := by decide +kernel
theorem dJ0_init_2_16 : decode cJ0_init_2 16 = .ok (.aload_n 0, 1) := by decide +kernel
theorem dJ0_init_2_17 : decode cJ0_init_2 17 = .ok (.getstatic 20, 3) := by decide +kernel
theorem dJ0_init_2_20 : decode cJ0_init_2 20 = .ok (.putfield 24, 3) := by decide +kernel
theorem dJ0_init_2_23 : decode cJ0_init_2 23 = .ok (.iload 4, 2) := by decide +kernel
theorem dJ0_init_2_25 : decode cJ0_init_2 25 = .ok (.ifCond .eq 11, 3) := by decide +kernel
theorem dJ0_init_2_28 : decode cJ0_init_2 28 = .ok (.aload_n 0, 1) := by decide +kernel
theorem dJ0_init_2_29 : decode cJ0_init_2 29 = .ok (.invokevirtual 27, 3) := by decide +kernel
theorem dJ0_init_2_32 : decode cJ0_init_2 32 = .ok (.pop, 1) := by decide +kernel
theorem dJ0_init_2_33 : decode cJ0_init_2 33 = .ok (.goto 8, 3) := by decide +kernel
theorem dJ0_init_2_36 : decode cJ0_init_2 36 = .ok (.aload_n 0, 1) := by decide +kernel
theorem dJ0_init_2_37 : decode cJ0_init_2 37 = .ok (.aconst_null, 1) := by decide +kernel
theorem dJ0_init_2_38 : decode cJ0_init_2 38 = .ok (.putfield 17, 3) := by decide +kernel
theorem dJ0_init_2_41 : decode cJ0_init_2 41 = .ok (.aload_n 0, 1) := by decide +kernel
theorem dJ0_init_2_42 : decode cJ0_init_2 42 = .ok (.aload_n 1, 1) := by decide +kernel
theorem dJ0_init_2_43 : decode cJ0_init_2 43 = .ok (.putfield 31, 3) := by decide +kernel
theorem dJ0_init_2_46 : decode cJ0_init_2 46 = .ok (.aload_n 0, 1) := by decide +kernel
theorem dJ0_init_2_47 : decode cJ0_init_2 47 = .ok (.aload_n 2, 1) := by decide +kernel
theorem dJ0_init_2_48 : decode cJ0_init_2 48 = .ok (.putfield 7, 3) := by decide +kernel
theorem dJ0_init_2_51 : decode cJ0_init_2 51 = .ok (.iload_n 3, 1) := by decide +kernel
theorem dJ0_init_2_52 : decode cJ0_init_2 52 = .ok (.ifCond .ne 8, 3) := by decide +kernel
theorem dJ0_init_2_55 : decode cJ0_init_2 55 = .ok (.aload_n 0, 1) := by decide +kernel
theorem dJ0_init_2_56 : decode cJ0_init_2 56 = .ok (.aconst_null, 1) := by decide +kernel
theorem dJ0_init_2_57 : decode cJ0_init_2 57 = .ok (.putfield 24, 3) := by decide +kernel
theorem dJ0_init_2_60 : decode cJ0_init_2 60 = .ok (.return_, 1) := by decide +kernel
theorem dJ1_init_0 : decode cJ1_init 0 = .ok (.aload_n 0, 1) := by decide +kernel
theorem dJ1_init_1 : decode cJ1_init 1 = .ok (.aload_n 1, 1) := by decide +kernel
theorem dJ1_init_2 : decode cJ1_init 2 = .ok (.aload_n 2, 1) := by decide +kernel
theorem dJ1_init_3 : decode cJ1_init 3 = .ok (.iload_n 3, 1) := by decide +kernel
theorem dJ1_init_4 : decode cJ1_init 4 = .ok (.iload 4, 2) := by decide +kernel
theorem dJ1_init_6 : decode cJ1_init 6 = .ok (.invokespecial 16, 3) := by decide +kernel
theorem dJ1_init_9 : decode cJ1_init 9 = .ok (.return_, 1) := by decide +kernel
theorem dJ1_init_2_0 : decode cJ1_init_2 0 = .ok (.aload_n 0, 1) := by decide +kernel
theorem dJ1_init_2_1 : decode cJ1_init_2 1 = .ok (.invokespecial 1, 3) := by decide +kernel
theorem dJ1_init_2_4 : decode cJ1_init_2 4 = .ok (.return_, 1) := by decide +kernel
theorem dJ2_init_0 : decode cJ2_init 0 = .ok (.aload_n 0, 1) := by decide +kernel
theorem dJ2_init_1 : decode cJ2_init 1 = .ok (.aload_n 1, 1) := by decide +kernel
theorem dJ2_init_2 : decode cJ2_init 2 = .ok (.aload_n 2, 1) := by decide +kernel
theorem dJ2_init_3 : decode cJ2_init 3 = .ok (.iload_n 3, 1) := by decide +kernel
theorem dJ2_init_4 : decode cJ2_init 4 = .ok (.iload 4, 2) := by decide +kernel
theorem dJ2_init_6 : decode cJ2_init 6 = .ok (.invokespecial 16, 3) := by decide +kernel
theorem dJ2_init_9 : decode cJ2_init 9 = .ok (.return_, 1) := by decide +kernel
theorem dJ2_init_2_0 : decode cJ2_init_2 0 = .ok (.aload_n 0, 1) := by decide +kernel
theorem dJ2_init_2_1 : decode cJ2_init_2 1 = .ok (.invokespecial 1, 3) := by decide +kernel
theorem dJ2_init_2_4 : decode cJ2_init_2 4 = .ok (.return_, 1) := by decide +kernel
