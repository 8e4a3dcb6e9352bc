/-! names: X0_init X0_feed X0_type X0_end X0_read X0_lay X0_look X0_give X0_begin (tools/chunk.py) -/
set_option maxRecDepth 100000
abbrev cX0_init : ByteArray := prog_1_method_9_code
def yX0_init : MethodName := ⟨RX0, "<init>", "()V"⟩
theorem q259 : (Jvm.Cond.code ({ cls := "CompiledHouse", name := "<init>", desc := "()V" } : Jvm.MethodName) prog_1_method_9_code (1 : Nat) (Option.none : Option Jvm.ClassFile.FieldType)) ∈ lw_all := lw_g (lw_at lw_m1 63 rfl) rfl
def kX0_init : xK := (yX0_init, cX0_init, 1, none, [])
theorem me_X0_init : xMe kX0_init 0 := ⟨q259, q197, by decide, by decide, by decide +kernel⟩
theorem q258 : (Jvm.Cond.instanceMethod ({ cls := "CompiledHouse", name := "<init>", desc := "()V" } : Jvm.MethodName)) ∈ lw_all := lw_g (lw_at lw_m1 62 rfl) rfl
theorem is_X0_init : Cond.instanceMethod kX0_init.y ∈ lw_all := q258
theorem q260 : (Jvm.Cond.methodLink "CompiledHouse" (21 : Nat) ({ cls := "java/lang/Object", name := "<init>", desc := "()V" } : Jvm.MethodName)) ∈ lw_all := lw_g (lw_at lw_m1 64 rfl) rfl
theorem lk_X0_21 : xLk RX0 21 yJ18_init := Or.inl q260
theorem q863 : (Jvm.Cond.fieldLink "CompiledHouse" (27 : Nat) "CompiledHouse" "tape" "[B") ∈ lw_all := lw_g (lw_at lw_m3 187 rfl) rfl
theorem f_X0_27_0 : xF RX0 27 0 0 := ⟨_, "CompiledHouse", rfl, by decide, Or.inl q863, Or.inl rfl⟩
theorem q263 : (Jvm.Cond.classLink "CompiledHouse" (31 : Nat) "CompiledHouse$Parser") ∈ lw_all := lw_g (lw_at lw_m1 67 rfl) rfl
theorem q265 : (Jvm.Cond.methodLinkNest "CompiledHouse" (33 : Nat) ({ cls := "CompiledHouse$Parser", name := "<init>", desc := "()V" } : Jvm.MethodName) "CompiledHouse") ∈ lw_tbl := lw_at lw_m1 69 rfl
abbrev cX1_init : ByteArray := prog_27_method_1_code
def yX1_init : MethodName := ⟨RX1, "<init>", "()V"⟩
theorem q267 : (Jvm.Cond.code ({ cls := "CompiledHouse$Parser", name := "<init>", desc := "()V" } : Jvm.MethodName) prog_27_method_1_code (1 : Nat) (Option.none : Option Jvm.ClassFile.FieldType)) ∈ lw_all := lw_g (lw_at lw_m1 71 rfl) rfl
def kX1_init : xK := (yX1_init, cX1_init, 1, none, [])
theorem me_X1_init : xMe kX1_init 0 := ⟨q267, q198, by decide, by decide, by decide +kernel⟩
theorem q266 : (Jvm.Cond.instanceMethod ({ cls := "CompiledHouse$Parser", name := "<init>", desc := "()V" } : Jvm.MethodName)) ∈ lw_all := lw_g (lw_at lw_m1 70 rfl) rfl
theorem is_X1_init : Cond.instanceMethod kX1_init.y ∈ lw_all := q266
theorem lk_X0_33 : xLk RX0 33 yX1_init := Or.inr ⟨_, q265⟩
theorem q865 : (Jvm.Cond.fieldLink "CompiledHouse" (34 : Nat) "CompiledHouse" "parser" "LCompiledHouse$Parser;") ∈ lw_all := lw_g (lw_at lw_m3 189 rfl) rfl
theorem f_X0_34_0 : xF RX0 34 0 2 := ⟨_, "CompiledHouse", rfl, by decide, Or.inl q865, Or.inl rfl⟩
theorem q511 : (Jvm.Cond.classLink "CompiledHouse" (38 : Nat) "CompiledHouse$Maker") ∈ lw_all := lw_g (lw_at lw_m2 75 rfl) rfl
theorem q513 : (Jvm.Cond.methodLinkNest "CompiledHouse" (40 : Nat) ({ cls := "CompiledHouse$Maker", name := "<init>", desc := "()V" } : Jvm.MethodName) "CompiledHouse") ∈ lw_tbl := lw_at lw_m2 77 rfl
abbrev cX6_init : ByteArray := prog_22_method_1_code
def yX6_init : MethodName := ⟨RX6, "<init>", "()V"⟩
theorem q515 : (Jvm.Cond.code ({ cls := "CompiledHouse$Maker", name := "<init>", desc := "()V" } : Jvm.MethodName) prog_22_method_1_code (1 : Nat) (Option.none : Option Jvm.ClassFile.FieldType)) ∈ lw_all := lw_g (lw_at lw_m2 79 rfl) rfl
def kX6_init : xK := (yX6_init, cX6_init, 1, none, [])
theorem me_X6_init : xMe kX6_init 0 := ⟨q515, q209, by decide, by decide, by decide +kernel⟩
theorem q514 : (Jvm.Cond.instanceMethod ({ cls := "CompiledHouse$Maker", name := "<init>", desc := "()V" } : Jvm.MethodName)) ∈ lw_all := lw_g (lw_at lw_m2 78 rfl) rfl
theorem is_X6_init : Cond.instanceMethod kX6_init.y ∈ lw_all := q514
theorem lk_X0_40 : xLk RX0 40 yX6_init := Or.inr ⟨_, q513⟩
theorem q866 : (Jvm.Cond.fieldLink "CompiledHouse" (41 : Nat) "CompiledHouse" "maker" "LCompiledHouse$Maker;") ∈ lw_all := lw_g (lw_at lw_m3 190 rfl) rfl
theorem f_X0_41_0 : xF RX0 41 0 3 := ⟨_, "CompiledHouse", rfl, by decide, Or.inl q866, Or.inl rfl⟩
theorem q579 : (Jvm.Cond.classLink "CompiledHouse" (45 : Nat) "CompiledHouse$Living") ∈ lw_all := lw_g (lw_at lw_m2 143 rfl) rfl
theorem q581 : (Jvm.Cond.methodLinkNest "CompiledHouse" (47 : Nat) ({ cls := "CompiledHouse$Living", name := "<init>", desc := "()V" } : Jvm.MethodName) "CompiledHouse") ∈ lw_tbl := lw_at lw_m2 145 rfl
theorem lk_X0_47 : xLk RX0 47 yX7_init := Or.inr ⟨_, q581⟩
theorem q867 : (Jvm.Cond.fieldLink "CompiledHouse" (48 : Nat) "CompiledHouse" "living" "LCompiledHouse$Living;") ∈ lw_all := lw_g (lw_at lw_m3 191 rfl) rfl
theorem f_X0_48_0 : xF RX0 48 0 4 := ⟨_, "CompiledHouse", rfl, by decide, Or.inl q867, Or.inl rfl⟩
theorem q600 : (Jvm.Cond.classLink "CompiledHouse" (52 : Nat) "CompiledHouse$Cleaner") ∈ lw_all := lw_g (lw_at lw_m2 164 rfl) rfl
theorem q602 : (Jvm.Cond.methodLink "CompiledHouse" (54 : Nat) ({ cls := "CompiledHouse$Cleaner", name := "<init>", desc := "(LCompiledHouse$Living;)V" } : Jvm.MethodName)) ∈ lw_all := lw_g (lw_at lw_m2 166 rfl) rfl
theorem lk_X0_54 : xLk RX0 54 yX8_init := Or.inl q602
theorem q868 : (Jvm.Cond.fieldLink "CompiledHouse" (57 : Nat) "CompiledHouse" "cleaner" "LCompiledHouse$Cleaner;") ∈ lw_all := lw_g (lw_at lw_m3 192 rfl) rfl
theorem f_X0_57_0 : xF RX0 57 0 5 := ⟨_, "CompiledHouse", rfl, by decide, Or.inl q868, Or.inl rfl⟩
theorem q723 : (Jvm.Cond.classLink "CompiledHouse" (61 : Nat) "CompiledHouse$Words") ∈ lw_all := lw_g (lw_at lw_m3 47 rfl) rfl
theorem q725 : (Jvm.Cond.methodLinkNest "CompiledHouse" (63 : Nat) ({ cls := "CompiledHouse$Words", name := "<init>", desc := "()V" } : Jvm.MethodName) "CompiledHouse") ∈ lw_tbl := lw_at lw_m3 49 rfl
theorem lk_X0_63 : xLk RX0 63 yX9_init := Or.inr ⟨_, q725⟩
theorem q869 : (Jvm.Cond.fieldLink "CompiledHouse" (64 : Nat) "CompiledHouse" "words" "LCompiledHouse$Words;") ∈ lw_all := lw_g (lw_at lw_m3 193 rfl) rfl
theorem f_X0_64_0 : xF RX0 64 0 6 := ⟨_, "CompiledHouse", rfl, by decide, Or.inl q869, Or.inl rfl⟩
theorem q757 : (Jvm.Cond.classLink "CompiledHouse" (68 : Nat) "CompiledHouse$Layer") ∈ lw_all := lw_g (lw_at lw_m3 81 rfl) rfl
theorem q759 : (Jvm.Cond.methodLink "CompiledHouse" (70 : Nat) ({ cls := "CompiledHouse$Layer", name := "<init>", desc := "(LCompiledHouse$Words;LCompiledHouse$Living;)V" } : Jvm.MethodName)) ∈ lw_all := lw_g (lw_at lw_m3 83 rfl) rfl
theorem lk_X0_70 : xLk RX0 70 yX10_init := Or.inl q759
theorem q870 : (Jvm.Cond.fieldLink "CompiledHouse" (73 : Nat) "CompiledHouse" "layer" "LCompiledHouse$Layer;") ∈ lw_all := lw_g (lw_at lw_m3 194 rfl) rfl
theorem f_X0_73_0 : xF RX0 73 0 7 := ⟨_, "CompiledHouse", rfl, by decide, Or.inl q870, Or.inl rfl⟩
theorem q838 : (Jvm.Cond.classLink "CompiledHouse" (10 : Nat) "java/util/ArrayList") ∈ lw_all := lw_g (lw_at lw_m3 162 rfl) rfl
theorem q839 : (Jvm.Cond.methodLink "CompiledHouse" (77 : Nat) ({ cls := "java/util/ArrayList", name := "<init>", desc := "()V" } : Jvm.MethodName)) ∈ lw_all := lw_g (lw_at lw_m3 163 rfl) rfl
theorem lk_X0_77 : xLk RX0 77 yJ5_init := Or.inl q839
theorem q872 : (Jvm.Cond.fieldLink "CompiledHouse" (78 : Nat) "CompiledHouse" "functions" "Ljava/util/ArrayList;") ∈ lw_all := lw_g (lw_at lw_m3 196 rfl) rfl
theorem f_X0_78_0 : xF RX0 78 0 9 := ⟨_, "CompiledHouse", rfl, by decide, Or.inl q872, Or.inl rfl⟩
theorem q876 : (Jvm.Cond.fieldLink "CompiledHouse" (82 : Nat) "CompiledHouse" "input" "[I") ∈ lw_all := lw_g (lw_at lw_m3 200 rfl) rfl
theorem f_X0_82_0 : xF RX0 82 0 13 := ⟨_, "CompiledHouse", rfl, by decide, Or.inl q876, Or.inl rfl⟩
theorem q877 : (Jvm.Cond.fieldLink "CompiledHouse" (86 : Nat) "CompiledHouse" "output" "[I") ∈ lw_all := lw_g (lw_at lw_m3 201 rfl) rfl
theorem f_X0_86_0 : xF RX0 86 0 14 := ⟨_, "CompiledHouse", rfl, by decide, Or.inl q877, Or.inl rfl⟩
theorem q840 : (Jvm.Cond.classLink "CompiledHouse" (89 : Nat) "CompiledHouse$Processor") ∈ lw_all := lw_g (lw_at lw_m3 164 rfl) rfl
theorem q842 : (Jvm.Cond.methodLinkNest "CompiledHouse" (91 : Nat) ({ cls := "CompiledHouse$Processor", name := "<init>", desc := "()V" } : Jvm.MethodName) "CompiledHouse") ∈ lw_tbl := lw_at lw_m3 166 rfl
theorem lk_X0_91 : xLk RX0 91 yX12_init := Or.inr ⟨_, q842⟩
theorem q880 : (Jvm.Cond.fieldLink "CompiledHouse" (92 : Nat) "CompiledHouse" "processor" "LCompiledHouse$Processor;") ∈ lw_all := lw_g (lw_at lw_m3 204 rfl) rfl
theorem f_X0_92_0 : xF RX0 92 0 17 := ⟨_, "CompiledHouse", rfl, by decide, Or.inl q880, Or.inl rfl⟩
theorem q881 : (Jvm.Cond.fieldLink "CompiledHouse" (96 : Nat) "CompiledHouse" "board" "LCompiledHouse$Processor;") ∈ lw_all := lw_g (lw_at lw_m3 205 rfl) rfl
theorem f_X0_96_0 : xF RX0 96 0 18 := ⟨_, "CompiledHouse", rfl, by decide, Or.inl q881, Or.inl rfl⟩
theorem q847 : (Jvm.Cond.fieldLinkNest "CompiledHouse" (99 : Nat) "CompiledHouse$Processor" "memory" "[I" "CompiledHouse") ∈ lw_tbl := lw_at lw_m3 171 rfl
theorem f_X0_99_11 : xF RX0 99 11 0 := ⟨_, "CompiledHouse$Processor", rfl, by decide, Or.inr ⟨_, q847⟩, Or.inl rfl⟩
abbrev cX0_feed : ByteArray := prog_1_method_10_code
def yX0_feed : MethodName := ⟨RX0, "feed", "(IIIII)I"⟩
theorem q945 : (Jvm.Cond.code ({ cls := "CompiledHouse", name := "feed", desc := "(IIIII)I" } : Jvm.MethodName) prog_1_method_10_code (6 : Nat) (Option.some Jvm.ClassFile.FieldType.int)) ∈ lw_all := lw_g (lw_at lw_m4 29 rfl) rfl
def kX0_feed : xK := (yX0_feed, cX0_feed, 6, some .int, [])
theorem me_X0_feed : xMe kX0_feed 5 := ⟨q945, q197, by decide, by decide, by decide +kernel⟩
theorem q943 : (Jvm.Cond.instanceMethod ({ cls := "CompiledHouse", name := "feed", desc := "(IIIII)I" } : Jvm.MethodName)) ∈ lw_all := lw_g (lw_at lw_m4 27 rfl) rfl
theorem is_X0_feed : Cond.instanceMethod kX0_feed.y ∈ lw_all := q943
theorem se_X0_feed : Cond.selects RX0 kX0_feed.y kX0_feed.y ∈ lw_all := q944
theorem q864 : (Jvm.Cond.fieldLink "CompiledHouse" (102 : Nat) "CompiledHouse" "size" "I") ∈ lw_all := lw_g (lw_at lw_m3 188 rfl) rfl
theorem f_X0_102_0 : xF RX0 102 0 1 := ⟨_, "CompiledHouse", rfl, by decide, Or.inl q864, Or.inl rfl⟩
theorem q946 : (Jvm.Cond.methodLink "CompiledHouse" (105 : Nat) ({ cls := "CompiledHouse", name := "type", desc := "(I)V" } : Jvm.MethodName)) ∈ lw_all := lw_g (lw_at lw_m4 30 rfl) rfl
abbrev cX0_type : ByteArray := prog_1_method_11_code
def yX0_type : MethodName := ⟨RX0, "type", "(I)V"⟩
theorem q949 : (Jvm.Cond.code ({ cls := "CompiledHouse", name := "type", desc := "(I)V" } : Jvm.MethodName) prog_1_method_11_code (3 : Nat) (Option.none : Option Jvm.ClassFile.FieldType)) ∈ lw_all := lw_g (lw_at lw_m4 33 rfl) rfl
def kX0_type : xK := (yX0_type, cX0_type, 3, none, [])
theorem me_X0_type : xMe kX0_type 1 := ⟨q949, q197, by decide, by decide, by decide +kernel⟩
theorem q948 : (Jvm.Cond.instanceMethod ({ cls := "CompiledHouse", name := "type", desc := "(I)V" } : Jvm.MethodName)) ∈ lw_all := lw_g (lw_at lw_m4 32 rfl) rfl
theorem is_X0_type : Cond.instanceMethod kX0_type.y ∈ lw_all := q948
theorem se_X0_type : Cond.selects RX0 kX0_type.y kX0_type.y ∈ lw_all := qs1
theorem lk_X0_105 : xLk RX0 105 yX0_type := Or.inl q946
abbrev cX0_end : ByteArray := prog_1_method_12_code
def yX0_end : MethodName := ⟨RX0, "end", "(I)I"⟩
theorem q953 : (Jvm.Cond.code ({ cls := "CompiledHouse", name := "end", desc := "(I)I" } : Jvm.MethodName) prog_1_method_12_code (2 : Nat) (Option.some Jvm.ClassFile.FieldType.int)) ∈ lw_all := lw_g (lw_at lw_m4 37 rfl) rfl
def kX0_end : xK := (yX0_end, cX0_end, 2, some .int, [])
theorem me_X0_end : xMe kX0_end 1 := ⟨q953, q197, by decide, by decide, by decide +kernel⟩
theorem q951 : (Jvm.Cond.instanceMethod ({ cls := "CompiledHouse", name := "end", desc := "(I)I" } : Jvm.MethodName)) ∈ lw_all := lw_g (lw_at lw_m4 35 rfl) rfl
theorem is_X0_end : Cond.instanceMethod kX0_end.y ∈ lw_all := q951
theorem se_X0_end : Cond.selects RX0 kX0_end.y kX0_end.y ∈ lw_all := q952
abbrev cX0_read : ByteArray := prog_1_method_13_code
def yX0_read : MethodName := ⟨RX0, "read", "()I"⟩
theorem q957 : (Jvm.Cond.code ({ cls := "CompiledHouse", name := "read", desc := "()I" } : Jvm.MethodName) prog_1_method_13_code (4 : Nat) (Option.some Jvm.ClassFile.FieldType.int)) ∈ lw_all := lw_g (lw_at lw_m4 41 rfl) rfl
def kX0_read : xK := (yX0_read, cX0_read, 4, some .int, [])
theorem me_X0_read : xMe kX0_read 0 := ⟨q957, q197, by decide, by decide, by decide +kernel⟩
theorem q955 : (Jvm.Cond.instanceMethod ({ cls := "CompiledHouse", name := "read", desc := "()I" } : Jvm.MethodName)) ∈ lw_all := lw_g (lw_at lw_m4 39 rfl) rfl
theorem is_X0_read : Cond.instanceMethod kX0_read.y ∈ lw_all := q955
theorem se_X0_read : Cond.selects RX0 kX0_read.y kX0_read.y ∈ lw_all := q956
theorem q871 : (Jvm.Cond.fieldLink "CompiledHouse" (109 : Nat) "CompiledHouse" "program" "Ljava/util/ArrayList;") ∈ lw_all := lw_g (lw_at lw_m3 195 rfl) rfl
theorem f_X0_109_0 : xF RX0 109 0 8 := ⟨_, "CompiledHouse", rfl, by decide, Or.inl q871, Or.inl rfl⟩
theorem q958 : (Jvm.Cond.methodLink "CompiledHouse" (112 : Nat) ({ cls := "java/util/ArrayList", name := "clear", desc := "()V" } : Jvm.MethodName)) ∈ lw_all := lw_g (lw_at lw_m4 42 rfl) rfl
theorem lk_X0_112 : xLk RX0 112 yJ5_clear := Or.inl q958
theorem q878 : (Jvm.Cond.fieldLink "CompiledHouse" (115 : Nat) "CompiledHouse" "inputs" "I") ∈ lw_all := lw_g (lw_at lw_m3 202 rfl) rfl
theorem f_X0_115_0 : xF RX0 115 0 15 := ⟨_, "CompiledHouse", rfl, by decide, Or.inl q878, Or.inl rfl⟩
theorem q879 : (Jvm.Cond.fieldLink "CompiledHouse" (118 : Nat) "CompiledHouse" "outputs" "I") ∈ lw_all := lw_g (lw_at lw_m3 203 rfl) rfl
theorem f_X0_118_0 : xF RX0 118 0 16 := ⟨_, "CompiledHouse", rfl, by decide, Or.inl q879, Or.inl rfl⟩
theorem q882 : (Jvm.Cond.fieldLink "CompiledHouse" (121 : Nat) "CompiledHouse" "how" "I") ∈ lw_all := lw_g (lw_at lw_m3 206 rfl) rfl
theorem f_X0_121_0 : xF RX0 121 0 19 := ⟨_, "CompiledHouse", rfl, by decide, Or.inl q882, Or.inl rfl⟩
theorem q884 : (Jvm.Cond.fieldLink "CompiledHouse" (124 : Nat) "CompiledHouse" "taken" "I") ∈ lw_all := lw_g (lw_at lw_m3 208 rfl) rfl
theorem f_X0_124_0 : xF RX0 124 0 21 := ⟨_, "CompiledHouse", rfl, by decide, Or.inl q884, Or.inl rfl⟩
theorem q883 : (Jvm.Cond.fieldLink "CompiledHouse" (127 : Nat) "CompiledHouse" "limit" "I") ∈ lw_all := lw_g (lw_at lw_m3 207 rfl) rfl
theorem f_X0_127_0 : xF RX0 127 0 20 := ⟨_, "CompiledHouse", rfl, by decide, Or.inl q883, Or.inl rfl⟩
theorem q887 : (Jvm.Cond.fieldLink "CompiledHouse" (130 : Nat) "CompiledHouse" "isBegun" "Z") ∈ lw_all := lw_g (lw_at lw_m3 211 rfl) rfl
theorem f_X0_130_0 : xF RX0 130 0 24 := ⟨_, "CompiledHouse", rfl, by decide, Or.inl q887, Or.inl rfl⟩
theorem q962 : (Jvm.Cond.methodLink "CompiledHouse" (134 : Nat) ({ cls := "CompiledHouse$Parser", name := "read", desc := "([BI)Ljava/util/ArrayList;" } : Jvm.MethodName)) ∈ lw_all := lw_g (lw_at lw_m4 46 rfl) rfl
abbrev cX1_read : ByteArray := prog_27_method_2_code
def yX1_read : MethodName := ⟨RX1, "read", "([BI)Ljava/util/ArrayList;"⟩
theorem q965 : (Jvm.Cond.codeWith ({ cls := "CompiledHouse$Parser", name := "read", desc := "([BI)Ljava/util/ArrayList;" } : Jvm.MethodName) prog_27_method_2_code (4 : Nat) (Option.some (Jvm.ClassFile.FieldType.object "java/util/ArrayList")) [((35 : Nat), (49 : Nat), (52 : Nat), (18 : Nat))]) ∈ lw_all := lw_g (lw_at lw_m4 49 rfl) rfl
def kX1_read : xK := (yX1_read, cX1_read, 4, some (.object "java/util/ArrayList"), [(35, 49, 52, 18)])
theorem me_X1_read : xMe kX1_read 2 := ⟨q965, q198, by decide, by decide, by decide +kernel⟩
theorem q963 : (Jvm.Cond.instanceMethod ({ cls := "CompiledHouse$Parser", name := "read", desc := "([BI)Ljava/util/ArrayList;" } : Jvm.MethodName)) ∈ lw_all := lw_g (lw_at lw_m4 47 rfl) rfl
theorem is_X1_read : Cond.instanceMethod kX1_read.y ∈ lw_all := q963
theorem se_X1_read : Cond.selects RX1 kX1_read.y kX1_read.y ∈ lw_all := q964
theorem lk_X0_134 : xLk RX0 134 yX1_read := Or.inl q962
theorem q492 : (Jvm.Cond.fieldLinkNest "CompiledHouse" (138 : Nat) "CompiledHouse$Parser" "place" "I" "CompiledHouse") ∈ lw_tbl := lw_at lw_m2 56 rfl
theorem f_X0_138_1 : xF RX0 138 1 6 := ⟨_, "CompiledHouse$Parser", rfl, by decide, Or.inr ⟨_, q492⟩, Or.inl rfl⟩
theorem q490 : (Jvm.Cond.fieldLinkNest "CompiledHouse" (141 : Nat) "CompiledHouse$Parser" "fault" "I" "CompiledHouse") ∈ lw_tbl := lw_at lw_m2 54 rfl
theorem f_X0_141_1 : xF RX0 141 1 5 := ⟨_, "CompiledHouse$Parser", rfl, by decide, Or.inr ⟨_, q490⟩, Or.inl rfl⟩
theorem q1678 : (Jvm.Cond.methodLink "CompiledHouse" (144 : Nat) ({ cls := "CompiledHouse$Maker", name := "make", desc := "(Ljava/util/ArrayList;I)Z" } : Jvm.MethodName)) ∈ lw_all := lw_g (lw_at lw_m7 42 rfl) rfl
abbrev cX6_make : ByteArray := prog_22_method_4_code
def yX6_make : MethodName := ⟨RX6, "make", "(Ljava/util/ArrayList;I)Z"⟩
theorem q1681 : (Jvm.Cond.codeWith ({ cls := "CompiledHouse$Maker", name := "make", desc := "(Ljava/util/ArrayList;I)Z" } : Jvm.MethodName) prog_22_method_4_code (5 : Nat) (Option.some Jvm.ClassFile.FieldType.boolean) [((131 : Nat), (196 : Nat), (199 : Nat), (9 : Nat))]) ∈ lw_all := lw_g (lw_at lw_m7 45 rfl) rfl
def kX6_make : xK := (yX6_make, cX6_make, 5, some .boolean, [(131, 196, 199, 9)])
theorem me_X6_make : xMe kX6_make 2 := ⟨q1681, q209, by decide, by decide, by decide +kernel⟩
theorem q1679 : (Jvm.Cond.instanceMethod ({ cls := "CompiledHouse$Maker", name := "make", desc := "(Ljava/util/ArrayList;I)Z" } : Jvm.MethodName)) ∈ lw_all := lw_g (lw_at lw_m7 43 rfl) rfl
theorem is_X6_make : Cond.instanceMethod kX6_make.y ∈ lw_all := q1679
theorem se_X6_make : Cond.selects RX6 kX6_make.y kX6_make.y ∈ lw_all := q1680
theorem lk_X0_144 : xLk RX0 144 yX6_make := Or.inl q1678
theorem q543 : (Jvm.Cond.fieldLinkNest "CompiledHouse" (148 : Nat) "CompiledHouse$Maker" "place" "I" "CompiledHouse") ∈ lw_tbl := lw_at lw_m2 107 rfl
theorem f_X0_148_5 : xF RX0 148 5 14 := ⟨_, "CompiledHouse$Maker", rfl, by decide, Or.inr ⟨_, q543⟩, Or.inl rfl⟩
theorem q541 : (Jvm.Cond.fieldLinkNest "CompiledHouse" (149 : Nat) "CompiledHouse$Maker" "fault" "I" "CompiledHouse") ∈ lw_tbl := lw_at lw_m2 105 rfl
theorem f_X0_149_5 : xF RX0 149 5 13 := ⟨_, "CompiledHouse$Maker", rfl, by decide, Or.inr ⟨_, q541⟩, Or.inl rfl⟩
theorem q2395 : (Jvm.Cond.methodLink "CompiledHouse" (150 : Nat) ({ cls := "java/util/ArrayList", name := "get", desc := "(I)Ljava/lang/Object;" } : Jvm.MethodName)) ∈ lw_all := lw_g (lw_at lw_m10 39 rfl) rfl
theorem lk_X0_150 : xLk RX0 150 yJ5_get := Or.inl q2395
theorem q2396 : (Jvm.Cond.classLink "CompiledHouse" (153 : Nat) "CompiledHouse$Told") ∈ lw_all := lw_g (lw_at lw_m10 40 rfl) rfl
theorem q1108 : (Jvm.Cond.fieldLinkNest "CompiledHouse" (155 : Nat) "CompiledHouse$Told" "kind" "I" "CompiledHouse") ∈ lw_tbl := lw_at lw_m4 192 rfl
theorem f_X0_155_13 : xF RX0 155 13 0 := ⟨_, "CompiledHouse$Told", rfl, by decide, Or.inr ⟨_, q1108⟩, Or.inl rfl⟩
theorem q2397 : (Jvm.Cond.methodLink "CompiledHouse" (158 : Nat) ({ cls := "java/util/ArrayList", name := "add", desc := "(Ljava/lang/Object;)Z" } : Jvm.MethodName)) ∈ lw_all := lw_g (lw_at lw_m10 41 rfl) rfl
theorem lk_X0_158 : xLk RX0 158 yJ5_add := Or.inl q2397
theorem q2398 : (Jvm.Cond.methodLink "CompiledHouse" (162 : Nat) ({ cls := "CompiledHouse", name := "lay", desc := "()V" } : Jvm.MethodName)) ∈ lw_all := lw_g (lw_at lw_m10 42 rfl) rfl
abbrev cX0_lay : ByteArray := prog_1_method_14_code
def yX0_lay : MethodName := ⟨RX0, "lay", "()V"⟩
theorem q2401 : (Jvm.Cond.code ({ cls := "CompiledHouse", name := "lay", desc := "()V" } : Jvm.MethodName) prog_1_method_14_code (4 : Nat) (Option.none : Option Jvm.ClassFile.FieldType)) ∈ lw_all := lw_g (lw_at lw_m10 45 rfl) rfl
def kX0_lay : xK := (yX0_lay, cX0_lay, 4, none, [])
theorem me_X0_lay : xMe kX0_lay 0 := ⟨q2401, q197, by decide, by decide, by decide +kernel⟩
theorem q2400 : (Jvm.Cond.instanceMethod ({ cls := "CompiledHouse", name := "lay", desc := "()V" } : Jvm.MethodName)) ∈ lw_all := lw_g (lw_at lw_m10 44 rfl) rfl
theorem is_X0_lay : Cond.instanceMethod kX0_lay.y ∈ lw_all := q2400
theorem se_X0_lay : Cond.selects RX0 kX0_lay.y kX0_lay.y ∈ lw_all := qs51
theorem lk_X0_162 : xLk RX0 162 yX0_lay := Or.inl q2398
theorem q2402 : (Jvm.Cond.methodLink "CompiledHouse" (165 : Nat) ({ cls := "CompiledHouse$Words", name := "clear", desc := "()V" } : Jvm.MethodName)) ∈ lw_all := lw_g (lw_at lw_m10 46 rfl) rfl
theorem lk_X0_165 : xLk RX0 165 yX9_clear := Or.inl q2402
theorem q2406 : (Jvm.Cond.methodLink "CompiledHouse" (166 : Nat) ({ cls := "CompiledHouse$Layer", name := "functions", desc := "(I)V" } : Jvm.MethodName)) ∈ lw_all := lw_g (lw_at lw_m10 50 rfl) rfl
theorem lk_X0_166 : xLk RX0 166 yX10_functions := Or.inl q2406
theorem q2417 : (Jvm.Cond.methodLink "CompiledHouse" (168 : Nat) ({ cls := "CompiledHouse$Words", name := "service", desc := "(I)V" } : Jvm.MethodName)) ∈ lw_all := lw_g (lw_at lw_m10 61 rfl) rfl
theorem lk_X0_168 : xLk RX0 168 yX9_service := Or.inl q2417
theorem q874 : (Jvm.Cond.fieldLink "CompiledHouse" (171 : Nat) "CompiledHouse" "share" "I") ∈ lw_all := lw_g (lw_at lw_m3 198 rfl) rfl
theorem f_X0_171_0 : xF RX0 171 0 11 := ⟨_, "CompiledHouse", rfl, by decide, Or.inl q874, Or.inl rfl⟩
theorem q875 : (Jvm.Cond.fieldLink "CompiledHouse" (174 : Nat) "CompiledHouse" "widest" "I") ∈ lw_all := lw_g (lw_at lw_m3 199 rfl) rfl
theorem f_X0_174_0 : xF RX0 174 0 12 := ⟨_, "CompiledHouse", rfl, by decide, Or.inl q875, Or.inl rfl⟩
theorem q1142 : (Jvm.Cond.fieldLinkNest "CompiledHouse" (177 : Nat) "CompiledHouse$Told" "code" "LCompiledHouse$Code;" "CompiledHouse") ∈ lw_tbl := lw_at lw_m4 226 rfl
theorem f_X0_177_13 : xF RX0 177 13 13 := ⟨_, "CompiledHouse$Told", rfl, by decide, Or.inr ⟨_, q1142⟩, Or.inl rfl⟩
theorem q2433 : (Jvm.Cond.methodLink "CompiledHouse" (181 : Nat) ({ cls := "CompiledHouse$Cleaner", name := "clean", desc := "(LCompiledHouse$Code;)V" } : Jvm.MethodName)) ∈ lw_all := lw_g (lw_at lw_m10 77 rfl) rfl
theorem lk_X0_181 : xLk RX0 181 yX8_clean := Or.inl q2433
theorem q2657 : (Jvm.Cond.methodLink "CompiledHouse" (185 : Nat) ({ cls := "CompiledHouse$Layer", name := "lay", desc := "(LCompiledHouse$Code;)I" } : Jvm.MethodName)) ∈ lw_all := lw_g (lw_at lw_m11 61 rfl) rfl
theorem lk_X0_185 : xLk RX0 185 yX10_lay := Or.inl q2657
theorem q1139 : (Jvm.Cond.fieldLinkNest "CompiledHouse" (188 : Nat) "CompiledHouse$Told" "measure" "I" "CompiledHouse") ∈ lw_tbl := lw_at lw_m4 223 rfl
theorem f_X0_188_13 : xF RX0 188 13 12 := ⟨_, "CompiledHouse$Told", rfl, by decide, Or.inr ⟨_, q1139⟩, Or.inl rfl⟩
theorem q736 : (Jvm.Cond.fieldLinkNest "CompiledHouse" (191 : Nat) "CompiledHouse$Words" "many" "I" "CompiledHouse") ∈ lw_tbl := lw_at lw_m3 60 rfl
theorem f_X0_191_8 : xF RX0 191 8 4 := ⟨_, "CompiledHouse$Words", rfl, by decide, Or.inr ⟨_, q736⟩, Or.inl rfl⟩
theorem q2849 : (Jvm.Cond.methodLink "CompiledHouse" (194 : Nat) ({ cls := "CompiledHouse", name := "roomFor", desc := "([II)[I" } : Jvm.MethodName)) ∈ lw_all := lw_g (lw_at lw_m12 13 rfl) rfl
theorem lk_X0_194 : xLk RX0 194 yX0_roomFor := Or.inl q2849
theorem q2850 : (Jvm.Cond.methodLink "CompiledHouse" (198 : Nat) ({ cls := "CompiledHouse$Words", name := "lay", desc := "([II)I" } : Jvm.MethodName)) ∈ lw_all := lw_g (lw_at lw_m12 14 rfl) rfl
theorem lk_X0_198 : xLk RX0 198 yX9_lay := Or.inl q2850
theorem q888 : (Jvm.Cond.fieldLink "CompiledHouse" (201 : Nat) "CompiledHouse" "code" "I") ∈ lw_all := lw_g (lw_at lw_m3 212 rfl) rfl
theorem f_X0_201_0 : xF RX0 201 0 25 := ⟨_, "CompiledHouse", rfl, by decide, Or.inl q888, Or.inl rfl⟩
theorem q732 : (Jvm.Cond.fieldLinkNest "CompiledHouse" (203 : Nat) "CompiledHouse$Words" "at" "[I" "CompiledHouse") ∈ lw_tbl := lw_at lw_m3 56 rfl
theorem f_X0_203_8 : xF RX0 203 8 2 := ⟨_, "CompiledHouse$Words", rfl, by decide, Or.inr ⟨_, q732⟩, Or.inl rfl⟩
theorem q740 : (Jvm.Cond.fieldLinkNest "CompiledHouse" (206 : Nat) "CompiledHouse$Words" "mark" "[I" "CompiledHouse") ∈ lw_tbl := lw_at lw_m3 64 rfl
theorem f_X0_206_8 : xF RX0 206 8 6 := ⟨_, "CompiledHouse$Words", rfl, by decide, Or.inr ⟨_, q740⟩, Or.inl rfl⟩
theorem q820 : (Jvm.Cond.fieldLinkNest "CompiledHouse" (209 : Nat) "CompiledHouse$Layer" "entries" "[I" "CompiledHouse") ∈ lw_tbl := lw_at lw_m3 144 rfl
theorem f_X0_209_9 : xF RX0 209 9 7 := ⟨_, "CompiledHouse$Layer", rfl, by decide, Or.inr ⟨_, q820⟩, Or.inl rfl⟩
theorem q2857 : (Jvm.Cond.methodLink "CompiledHouse" (212 : Nat) ({ cls := "CompiledHouse$Maker", name := "main", desc := "()LCompiledHouse$Told;" } : Jvm.MethodName)) ∈ lw_all := lw_g (lw_at lw_m12 21 rfl) rfl
abbrev cX6_main : ByteArray := prog_22_method_6_code
def yX6_main : MethodName := ⟨RX6, "main", "()LCompiledHouse$Told;"⟩
theorem q2389 : (Jvm.Cond.code ({ cls := "CompiledHouse$Maker", name := "main", desc := "()LCompiledHouse$Told;" } : Jvm.MethodName) prog_22_method_6_code (2 : Nat) (Option.some (Jvm.ClassFile.FieldType.object "CompiledHouse$Told"))) ∈ lw_all := lw_g (lw_at lw_m10 33 rfl) rfl
def kX6_main : xK := (yX6_main, cX6_main, 2, some (.object "CompiledHouse$Told"), [])
theorem me_X6_main : xMe kX6_main 0 := ⟨q2389, q209, by decide, by decide, by decide +kernel⟩
theorem q2387 : (Jvm.Cond.instanceMethod ({ cls := "CompiledHouse$Maker", name := "main", desc := "()LCompiledHouse$Told;" } : Jvm.MethodName)) ∈ lw_all := lw_g (lw_at lw_m10 31 rfl) rfl
theorem is_X6_main : Cond.instanceMethod kX6_main.y ∈ lw_all := q2387
theorem se_X6_main : Cond.selects RX6 kX6_main.y kX6_main.y ∈ lw_all := q2388
theorem lk_X0_212 : xLk RX0 212 yX6_main := Or.inl q2857
theorem q1137 : (Jvm.Cond.fieldLinkNest "CompiledHouse" (216 : Nat) "CompiledHouse$Told" "number" "I" "CompiledHouse") ∈ lw_tbl := lw_at lw_m4 221 rfl
theorem f_X0_216_13 : xF RX0 216 13 11 := ⟨_, "CompiledHouse$Told", rfl, by decide, Or.inr ⟨_, q1137⟩, Or.inl rfl⟩
theorem q873 : (Jvm.Cond.fieldLink "CompiledHouse" (219 : Nat) "CompiledHouse" "entry" "I") ∈ lw_all := lw_g (lw_at lw_m3 197 rfl) rfl
theorem f_X0_219_0 : xF RX0 219 0 10 := ⟨_, "CompiledHouse", rfl, by decide, Or.inl q873, Or.inl rfl⟩
abbrev cX0_look : ByteArray := prog_1_method_15_code
def yX0_look : MethodName := ⟨RX0, "look", "(II)I"⟩
theorem q2861 : (Jvm.Cond.code ({ cls := "CompiledHouse", name := "look", desc := "(II)I" } : Jvm.MethodName) prog_1_method_15_code (4 : Nat) (Option.some Jvm.ClassFile.FieldType.int)) ∈ lw_all := lw_g (lw_at lw_m12 25 rfl) rfl
def kX0_look : xK := (yX0_look, cX0_look, 4, some .int, [])
theorem me_X0_look : xMe kX0_look 2 := ⟨q2861, q197, by decide, by decide, by decide +kernel⟩
theorem q2859 : (Jvm.Cond.instanceMethod ({ cls := "CompiledHouse", name := "look", desc := "(II)I" } : Jvm.MethodName)) ∈ lw_all := lw_g (lw_at lw_m12 23 rfl) rfl
theorem is_X0_look : Cond.instanceMethod kX0_look.y ∈ lw_all := q2859
theorem se_X0_look : Cond.selects RX0 kX0_look.y kX0_look.y ∈ lw_all := q2860
theorem q527 : (Jvm.Cond.fieldLinkNest "CompiledHouse" (222 : Nat) "CompiledHouse$Maker" "globalWords" "I" "CompiledHouse") ∈ lw_tbl := lw_at lw_m2 91 rfl
theorem f_X0_222_5 : xF RX0 222 5 5 := ⟨_, "CompiledHouse$Maker", rfl, by decide, Or.inr ⟨_, q527⟩, Or.inl rfl⟩
theorem q1114 : (Jvm.Cond.fieldLinkNest "CompiledHouse" (225 : Nat) "CompiledHouse$Told" "place" "I" "CompiledHouse") ∈ lw_tbl := lw_at lw_m4 198 rfl
theorem f_X0_225_13 : xF RX0 225 13 2 := ⟨_, "CompiledHouse$Told", rfl, by decide, Or.inr ⟨_, q1114⟩, Or.inl rfl⟩
theorem q1129 : (Jvm.Cond.fieldLinkNest "CompiledHouse" (226 : Nat) "CompiledHouse$Told" "formals" "Ljava/util/ArrayList;" "CompiledHouse") ∈ lw_tbl := lw_at lw_m4 213 rfl
theorem f_X0_226_13 : xF RX0 226 13 8 := ⟨_, "CompiledHouse$Told", rfl, by decide, Or.inr ⟨_, q1129⟩, Or.inl rfl⟩
theorem q1119 : (Jvm.Cond.fieldLinkNest "CompiledHouse" (229 : Nat) "CompiledHouse$Told" "isVoid" "Z" "CompiledHouse") ∈ lw_tbl := lw_at lw_m4 203 rfl
theorem f_X0_229_13 : xF RX0 229 13 4 := ⟨_, "CompiledHouse$Told", rfl, by decide, Or.inr ⟨_, q1119⟩, Or.inl rfl⟩
abbrev cX0_give : ByteArray := prog_1_method_16_code
def yX0_give : MethodName := ⟨RX0, "give", "(I)I"⟩
theorem q2865 : (Jvm.Cond.code ({ cls := "CompiledHouse", name := "give", desc := "(I)I" } : Jvm.MethodName) prog_1_method_16_code (2 : Nat) (Option.some Jvm.ClassFile.FieldType.int)) ∈ lw_all := lw_g (lw_at lw_m12 29 rfl) rfl
def kX0_give : xK := (yX0_give, cX0_give, 2, some .int, [])
theorem me_X0_give : xMe kX0_give 1 := ⟨q2865, q197, by decide, by decide, by decide +kernel⟩
theorem q2863 : (Jvm.Cond.instanceMethod ({ cls := "CompiledHouse", name := "give", desc := "(I)I" } : Jvm.MethodName)) ∈ lw_all := lw_g (lw_at lw_m12 27 rfl) rfl
theorem is_X0_give : Cond.instanceMethod kX0_give.y ∈ lw_all := q2863
theorem se_X0_give : Cond.selects RX0 kX0_give.y kX0_give.y ∈ lw_all := q2864
abbrev cX0_begin : ByteArray := prog_1_method_17_code
def yX0_begin : MethodName := ⟨RX0, "begin", "(I)Z"⟩
theorem q2869 : (Jvm.Cond.code ({ cls := "CompiledHouse", name := "begin", desc := "(I)Z" } : Jvm.MethodName) prog_1_method_17_code (6 : Nat) (Option.some Jvm.ClassFile.FieldType.boolean)) ∈ lw_all := lw_g (lw_at lw_m12 33 rfl) rfl
def kX0_begin : xK := (yX0_begin, cX0_begin, 6, some .boolean, [])
theorem me_X0_begin : xMe kX0_begin 1 := ⟨q2869, q197, by decide, by decide, by decide +kernel⟩
theorem q2867 : (Jvm.Cond.instanceMethod ({ cls := "CompiledHouse", name := "begin", desc := "(I)Z" } : Jvm.MethodName)) ∈ lw_all := lw_g (lw_at lw_m12 31 rfl) rfl
theorem is_X0_begin : Cond.instanceMethod kX0_begin.y ∈ lw_all := q2867
theorem se_X0_begin : Cond.selects RX0 kX0_begin.y kX0_begin.y ∈ lw_all := q2868
theorem q2870 : (Jvm.Cond.constantLong "CompiledHouse" (232 : Nat) (16 : Int64)) ∈ lw_all := lw_g (lw_at lw_m12 34 rfl) rfl
theorem q545 : (Jvm.Cond.fieldLinkNest "CompiledHouse" (234 : Nat) "CompiledHouse$Maker" "first" "[I" "CompiledHouse") ∈ lw_tbl := lw_at lw_m2 109 rfl
theorem f_X0_234_5 : xF RX0 234 5 15 := ⟨_, "CompiledHouse$Maker", rfl, by decide, Or.inr ⟨_, q545⟩, Or.inl rfl⟩
theorem q885 : (Jvm.Cond.fieldLink "CompiledHouse" (237 : Nat) "CompiledHouse" "value" "I") ∈ lw_all := lw_g (lw_at lw_m3 209 rfl) rfl
theorem f_X0_237_0 : xF RX0 237 0 22 := ⟨_, "CompiledHouse", rfl, by decide, Or.inl q885, Or.inl rfl⟩
theorem q886 : (Jvm.Cond.fieldLink "CompiledHouse" (240 : Nat) "CompiledHouse" "place" "I") ∈ lw_all := lw_g (lw_at lw_m3 210 rfl) rfl
theorem f_X0_240_0 : xF RX0 240 0 23 := ⟨_, "CompiledHouse", rfl, by decide, Or.inl q886, Or.inl rfl⟩
theorem dX0_init_0 : decode cX0_init 0 = .ok (.aload_n 0, 1) := by decide +kernel
theorem dX0_init_1 : decode cX0_init 1 = .ok (.invokespecial 21, 3) := by decide +kernel
theorem dX0_init_4 : decode cX0_init 4 = .ok (.aload_n 0, 1) := by decide +kernel
theorem dX0_init_5 : decode cX0_init 5 = .ok (.sipush 4000, 3) := by decide +kernel
theorem dX0_init_8 : decode cX0_init 8 = .ok (.newarray .byte, 2) := by decide +kernel
theorem dX0_init_10 : decode cX0_init 10 = .ok (.putfield 27, 3) := by decide +kernel
theorem dX0_init_13 : decode cX0_init 13 = .ok (.aload_n 0, 1) := by decide +kernel
theorem dX0_init_14 : decode cX0_init 14 = .ok (.new 31, 3) := by decide +kernel
theorem dX0_init_17 : decode cX0_init 17 = .ok (.dup, 1) := by decide +kernel
theorem dX0_init_18 : decode cX0_init 18 = .ok (.invokespecial 33, 3) := by decide +kernel
theorem dX0_init_21 : decode cX0_init 21 = .ok (.putfield 34, 3) := by decide +kernel
theorem dX0_init_24 : decode cX0_init 24 = .ok (.aload_n 0, 1) := by decide +kernel
theorem dX0_init_25 : decode cX0_init 25 = .ok (.new 38, 3) := by decide +kernel
theorem dX0_init_28 : decode cX0_init 28 = .ok (.dup, 1) := by decide +kernel
theorem dX0_init_29 : decode cX0_init 29 = .ok (.invokespecial 40, 3) := by decide +kernel
theorem dX0_init_32 : decode cX0_init 32 = .ok (.putfield 41, 3) := by decide +kernel
theorem dX0_init_35 : decode cX0_init 35 = .ok (.aload_n 0, 1) := by decide +kernel
theorem dX0_init_36 : decode cX0_init 36 = .ok (.new 45, 3) := by decide +kernel
theorem dX0_init_39 : decode cX0_init 39 = .ok (.dup, 1) := by decide +kernel
theorem dX0_init_40 : decode cX0_init 40 = .ok (.invokespecial 47, 3) := by decide +kernel
theorem dX0_init_43 : decode cX0_init 43 = .ok (.putfield 48, 3) := by decide +kernel
theorem dX0_init_46 : decode cX0_init 46 = .ok (.aload_n 0, 1) := by decide +kernel
theorem dX0_init_47 : decode cX0_init 47 = .ok (.new 52, 3) := by decide +kernel
theorem dX0_init_50 : decode cX0_init 50 = .ok (.dup, 1) := by decide +kernel
theorem dX0_init_51 : decode cX0_init 51 = .ok (.aload_n 0, 1) := by decide +kernel
theorem dX0_init_52 : decode cX0_init 52 = .ok (.getfield 48, 3) := by decide +kernel
theorem dX0_init_55 : decode cX0_init 55 = .ok (.invokespecial 54, 3) := by decide +kernel
theorem dX0_init_58 : decode cX0_init 58 = .ok (.putfield 57, 3) := by decide +kernel
theorem dX0_init_61 : decode cX0_init 61 = .ok (.aload_n 0, 1) := by decide +kernel
theorem dX0_init_62 : decode cX0_init 62 = .ok (.new 61, 3) := by decide +kernel
theorem dX0_init_65 : decode cX0_init 65 = .ok (.dup, 1) := by decide +kernel
theorem dX0_init_66 : decode cX0_init 66 = .ok (.invokespecial 63, 3) := by decide +kernel
theorem dX0_init_69 : decode cX0_init 69 = .ok (.putfield 64, 3) := by decide +kernel
theorem dX0_init_72 : decode cX0_init 72 = .ok (.aload_n 0, 1) := by decide +kernel
theorem dX0_init_73 : decode cX0_init 73 = .ok (.new 68, 3) := by decide +kernel
theorem dX0_init_76 : decode cX0_init 76 = .ok (.dup, 1) := by decide +kernel
theorem dX0_init_77 : decode cX0_init 77 = .ok (.aload_n 0, 1) := by decide +kernel
theorem dX0_init_78 : decode cX0_init 78 = .ok (.getfield 64, 3) := by decide +kernel
theorem dX0_init_81 : decode cX0_init 81 = .ok (.aload_n 0, 1) := by decide +kernel
theorem dX0_init_82 : decode cX0_init 82 = .ok (.getfield 48, 3) := by decide +kernel
theorem dX0_init_85 : decode cX0_init 85 = .ok (.invokespecial 70, 3) := by decide +kernel
theorem dX0_init_88 : decode cX0_init 88 = .ok (.putfield 73, 3) := by decide +kernel
theorem dX0_init_91 : decode cX0_init 91 = .ok (.aload_n 0, 1) := by decide +kernel
theorem dX0_init_92 : decode cX0_init 92 = .ok (.new 10, 3) := by decide +kernel
theorem dX0_init_95 : decode cX0_init 95 = .ok (.dup, 1) := by decide +kernel
theorem dX0_init_96 : decode cX0_init 96 = .ok (.invokespecial 77, 3) := by decide +kernel
theorem dX0_init_99 : decode cX0_init 99 = .ok (.putfield 78, 3) := by decide +kernel
theorem dX0_init_102 : decode cX0_init 102 = .ok (.aload_n 0, 1) := by decide +kernel
theorem dX0_init_103 : decode cX0_init 103 = .ok (.sipush 500, 3) := by decide +kernel
theorem dX0_init_106 : decode cX0_init 106 = .ok (.newarray .int, 2) := by decide +kernel
theorem dX0_init_108 : decode cX0_init 108 = .ok (.putfield 82, 3) := by decide +kernel
theorem dX0_init_111 : decode cX0_init 111 = .ok (.aload_n 0, 1) := by decide +kernel
theorem dX0_init_112 : decode cX0_init 112 = .ok (.sipush 2000, 3) := by decide +kernel
theorem dX0_init_115 : decode cX0_init 115 = .ok (.newarray .int, 2) := by decide +kernel
theorem dX0_init_117 : decode cX0_init 117 = .ok (.putfield 86, 3) := by decide +kernel
theorem dX0_init_120 : decode cX0_init 120 = .ok (.aload_n 0, 1) := by decide +kernel
theorem dX0_init_121 : decode cX0_init 121 = .ok (.new 89, 3) := by decide +kernel
theorem dX0_init_124 : decode cX0_init 124 = .ok (.dup, 1) := by decide +kernel
theorem dX0_init_125 : decode cX0_init 125 = .ok (.invokespecial 91, 3) := by decide +kernel
theorem dX0_init_128 : decode cX0_init 128 = .ok (.putfield 92, 3) := by decide +kernel
theorem dX0_init_131 : decode cX0_init 131 = .ok (.aload_n 0, 1) := by decide +kernel
theorem dX0_init_132 : decode cX0_init 132 = .ok (.new 89, 3) := by decide +kernel
theorem dX0_init_135 : decode cX0_init 135 = .ok (.dup, 1) := by decide +kernel
theorem dX0_init_136 : decode cX0_init 136 = .ok (.invokespecial 91, 3) := by decide +kernel
theorem dX0_init_139 : decode cX0_init 139 = .ok (.putfield 96, 3) := by decide +kernel
theorem dX0_init_142 : decode cX0_init 142 = .ok (.aload_n 0, 1) := by decide +kernel
theorem dX0_init_143 : decode cX0_init 143 = .ok (.getfield 92, 3) := by decide +kernel
theorem dX0_init_146 : decode cX0_init 146 = .ok (.sipush 2048, 3) := by decide +kernel
theorem dX0_init_149 : decode cX0_init 149 = .ok (.newarray .int, 2) := by decide +kernel
theorem dX0_init_151 : decode cX0_init 151 = .ok (.putfield 99, 3) := by decide +kernel
theorem dX0_init_154 : decode cX0_init 154 = .ok (.aload_n 0, 1) := by decide +kernel
theorem dX0_init_155 : decode cX0_init 155 = .ok (.getfield 96, 3) := by decide +kernel
theorem dX0_init_158 : decode cX0_init 158 = .ok (.sipush 4096, 3) := by decide +kernel
theorem dX0_init_161 : decode cX0_init 161 = .ok (.newarray .int, 2) := by decide +kernel
theorem dX0_init_163 : decode cX0_init 163 = .ok (.putfield 99, 3) := by decide +kernel
theorem dX0_init_166 : decode cX0_init 166 = .ok (.return_, 1) := by decide +kernel
theorem dX0_feed_0 : decode cX0_feed 0 = .ok (.aload_n 0, 1) := by decide +kernel
theorem dX0_feed_1 : decode cX0_feed 1 = .ok (.getfield 102, 3) := by decide +kernel
theorem dX0_feed_4 : decode cX0_feed 4 = .ok (.bipush 20, 2) := by decide +kernel
theorem dX0_feed_6 : decode cX0_feed 6 = .ok (.iadd, 1) := by decide +kernel
theorem dX0_feed_7 : decode cX0_feed 7 = .ok (.sipush 4000, 3) := by decide +kernel
theorem dX0_feed_10 : decode cX0_feed 10 = .ok (.if_icmp .le 5, 3) := by decide +kernel
theorem dX0_feed_13 : decode cX0_feed 13 = .ok (.iconst (-1), 1) := by decide +kernel
theorem dX0_feed_14 : decode cX0_feed 14 = .ok (.ireturn, 1) := by decide +kernel
theorem dX0_feed_15 : decode cX0_feed 15 = .ok (.aload_n 0, 1) := by decide +kernel
theorem dX0_feed_16 : decode cX0_feed 16 = .ok (.iload_n 1, 1) := by decide +kernel
theorem dX0_feed_17 : decode cX0_feed 17 = .ok (.invokevirtual 105, 3) := by decide +kernel
theorem dX0_feed_20 : decode cX0_feed 20 = .ok (.aload_n 0, 1) := by decide +kernel
theorem dX0_feed_21 : decode cX0_feed 21 = .ok (.iload_n 2, 1) := by decide +kernel
theorem dX0_feed_22 : decode cX0_feed 22 = .ok (.invokevirtual 105, 3) := by decide +kernel
theorem dX0_feed_25 : decode cX0_feed 25 = .ok (.aload_n 0, 1) := by decide +kernel
theorem dX0_feed_26 : decode cX0_feed 26 = .ok (.iload_n 3, 1) := by decide +kernel
theorem dX0_feed_27 : decode cX0_feed 27 = .ok (.invokevirtual 105, 3) := by decide +kernel
theorem dX0_feed_30 : decode cX0_feed 30 = .ok (.aload_n 0, 1) := by decide +kernel
theorem dX0_feed_31 : decode cX0_feed 31 = .ok (.iload 4, 2) := by decide +kernel
theorem dX0_feed_33 : decode cX0_feed 33 = .ok (.invokevirtual 105, 3) := by decide +kernel
theorem dX0_feed_36 : decode cX0_feed 36 = .ok (.aload_n 0, 1) := by decide +kernel
theorem dX0_feed_37 : decode cX0_feed 37 = .ok (.iload 5, 2) := by decide +kernel
theorem dX0_feed_39 : decode cX0_feed 39 = .ok (.invokevirtual 105, 3) := by decide +kernel
theorem dX0_feed_42 : decode cX0_feed 42 = .ok (.aload_n 0, 1) := by decide +kernel
theorem dX0_feed_43 : decode cX0_feed 43 = .ok (.getfield 102, 3) := by decide +kernel
theorem dX0_feed_46 : decode cX0_feed 46 = .ok (.ireturn, 1) := by decide +kernel
theorem dX0_type_0 : decode cX0_type 0 = .ok (.bipush 24, 2) := by decide +kernel
theorem dX0_type_2 : decode cX0_type 2 = .ok (.istore_n 2, 1) := by decide +kernel
theorem dX0_type_3 : decode cX0_type 3 = .ok (.iload_n 2, 1) := by decide +kernel
theorem dX0_type_4 : decode cX0_type 4 = .ok (.ifCond .lt 32, 3) := by decide +kernel
theorem dX0_type_7 : decode cX0_type 7 = .ok (.aload_n 0, 1) := by decide +kernel
theorem dX0_type_8 : decode cX0_type 8 = .ok (.getfield 27, 3) := by decide +kernel
theorem dX0_type_11 : decode cX0_type 11 = .ok (.aload_n 0, 1) := by decide +kernel
theorem dX0_type_12 : decode cX0_type 12 = .ok (.getfield 102, 3) := by decide +kernel
theorem dX0_type_15 : decode cX0_type 15 = .ok (.iload_n 1, 1) := by decide +kernel
theorem dX0_type_16 : decode cX0_type 16 = .ok (.iload_n 2, 1) := by decide +kernel
theorem dX0_type_17 : decode cX0_type 17 = .ok (.ishr, 1) := by decide +kernel
theorem dX0_type_18 : decode cX0_type 18 = .ok (.i2b, 1) := by decide +kernel
theorem dX0_type_19 : decode cX0_type 19 = .ok (.bastore, 1) := by decide +kernel
theorem dX0_type_20 : decode cX0_type 20 = .ok (.aload_n 0, 1) := by decide +kernel
theorem dX0_type_21 : decode cX0_type 21 = .ok (.dup, 1) := by decide +kernel
theorem dX0_type_22 : decode cX0_type 22 = .ok (.getfield 102, 3) := by decide +kernel
theorem dX0_type_25 : decode cX0_type 25 = .ok (.iconst 1, 1) := by decide +kernel
theorem dX0_type_26 : decode cX0_type 26 = .ok (.iadd, 1) := by decide +kernel
theorem dX0_type_27 : decode cX0_type 27 = .ok (.putfield 102, 3) := by decide +kernel
theorem dX0_type_30 : decode cX0_type 30 = .ok (.iinc 2 (-8), 3) := by decide +kernel
theorem dX0_type_33 : decode cX0_type 33 = .ok (.goto (-30), 3) := by decide +kernel
theorem dX0_type_36 : decode cX0_type 36 = .ok (.return_, 1) := by decide +kernel
theorem dX0_end_0 : decode cX0_end 0 = .ok (.iload_n 1, 1) := by decide +kernel
theorem dX0_end_1 : decode cX0_end 1 = .ok (.ifCond .lt 11, 3) := by decide +kernel
theorem dX0_end_4 : decode cX0_end 4 = .ok (.iload_n 1, 1) := by decide +kernel
theorem dX0_end_5 : decode cX0_end 5 = .ok (.aload_n 0, 1) := by decide +kernel
theorem dX0_end_6 : decode cX0_end 6 = .ok (.getfield 102, 3) := by decide +kernel
theorem dX0_end_9 : decode cX0_end 9 = .ok (.if_icmp .le 5, 3) := by decide +kernel
theorem dX0_end_12 : decode cX0_end 12 = .ok (.iconst (-1), 1) := by decide +kernel
theorem dX0_end_13 : decode cX0_end 13 = .ok (.ireturn, 1) := by decide +kernel
theorem dX0_end_14 : decode cX0_end 14 = .ok (.aload_n 0, 1) := by decide +kernel
theorem dX0_end_15 : decode cX0_end 15 = .ok (.iload_n 1, 1) := by decide +kernel
theorem dX0_end_16 : decode cX0_end 16 = .ok (.putfield 102, 3) := by decide +kernel
theorem dX0_end_19 : decode cX0_end 19 = .ok (.aload_n 0, 1) := by decide +kernel
theorem dX0_end_20 : decode cX0_end 20 = .ok (.getfield 102, 3) := by decide +kernel
theorem dX0_end_23 : decode cX0_end 23 = .ok (.ireturn, 1) := by decide +kernel
theorem dX0_read_0 : decode cX0_read 0 = .ok (.aload_n 0, 1) := by decide +kernel
theorem dX0_read_1 : decode cX0_read 1 = .ok (.getfield 102, 3) := by decide +kernel
theorem dX0_read_4 : decode cX0_read 4 = .ok (.istore_n 1, 1) := by decide +kernel
theorem dX0_read_5 : decode cX0_read 5 = .ok (.aload_n 0, 1) := by decide +kernel
theorem dX0_read_6 : decode cX0_read 6 = .ok (.iconst 0, 1) := by decide +kernel
theorem dX0_read_7 : decode cX0_read 7 = .ok (.putfield 102, 3) := by decide +kernel
theorem dX0_read_10 : decode cX0_read 10 = .ok (.aload_n 0, 1) := by decide +kernel
theorem dX0_read_11 : decode cX0_read 11 = .ok (.aconst_null, 1) := by decide +kernel
theorem dX0_read_12 : decode cX0_read 12 = .ok (.putfield 109, 3) := by decide +kernel
theorem dX0_read_15 : decode cX0_read 15 = .ok (.aload_n 0, 1) := by decide +kernel
theorem dX0_read_16 : decode cX0_read 16 = .ok (.getfield 78, 3) := by decide +kernel
theorem dX0_read_19 : decode cX0_read 19 = .ok (.invokevirtual 112, 3) := by decide +kernel
theorem dX0_read_22 : decode cX0_read 22 = .ok (.aload_n 0, 1) := by decide +kernel
theorem dX0_read_23 : decode cX0_read 23 = .ok (.iconst 0, 1) := by decide +kernel
theorem dX0_read_24 : decode cX0_read 24 = .ok (.putfield 115, 3) := by decide +kernel
theorem dX0_read_27 : decode cX0_read 27 = .ok (.aload_n 0, 1) := by decide +kernel
theorem dX0_read_28 : decode cX0_read 28 = .ok (.iconst 0, 1) := by decide +kernel
theorem dX0_read_29 : decode cX0_read 29 = .ok (.putfield 118, 3) := by decide +kernel
theorem dX0_read_32 : decode cX0_read 32 = .ok (.aload_n 0, 1) := by decide +kernel
theorem dX0_read_33 : decode cX0_read 33 = .ok (.iconst 0, 1) := by decide +kernel
theorem dX0_read_34 : decode cX0_read 34 = .ok (.putfield 121, 3) := by decide +kernel
theorem dX0_read_37 : decode cX0_read 37 = .ok (.aload_n 0, 1) := by decide +kernel
theorem dX0_read_38 : decode cX0_read 38 = .ok (.iconst 0, 1) := by decide +kernel
theorem dX0_read_39 : decode cX0_read 39 = .ok (.putfield 124, 3) := by decide +kernel
theorem dX0_read_42 : decode cX0_read 42 = .ok (.aload_n 0, 1) := by decide +kernel
theorem dX0_read_43 : decode cX0_read 43 = .ok (.iconst 0, 1) := by decide +kernel
theorem dX0_read_44 : decode cX0_read 44 = .ok (.putfield 127, 3) := by decide +kernel
theorem dX0_read_47 : decode cX0_read 47 = .ok (.aload_n 0, 1) := by decide +kernel
theorem dX0_read_48 : decode cX0_read 48 = .ok (.iconst 0, 1) := by decide +kernel
theorem dX0_read_49 : decode cX0_read 49 = .ok (.putfield 130, 3) := by decide +kernel
theorem dX0_read_52 : decode cX0_read 52 = .ok (.aload_n 0, 1) := by decide +kernel
theorem dX0_read_53 : decode cX0_read 53 = .ok (.getfield 34, 3) := by decide +kernel
theorem dX0_read_56 : decode cX0_read 56 = .ok (.aload_n 0, 1) := by decide +kernel
theorem dX0_read_57 : decode cX0_read 57 = .ok (.getfield 27, 3) := by decide +kernel
theorem dX0_read_60 : decode cX0_read 60 = .ok (.iload_n 1, 1) := by decide +kernel
theorem dX0_read_61 : decode cX0_read 61 = .ok (.invokevirtual 134, 3) := by decide +kernel
theorem dX0_read_64 : decode cX0_read 64 = .ok (.astore_n 2, 1) := by decide +kernel
theorem dX0_read_65 : decode cX0_read 65 = .ok (.aload_n 2, 1) := by decide +kernel
theorem dX0_read_66 : decode cX0_read 66 = .ok (.ifnonnull 22, 3) := by decide +kernel
theorem dX0_read_69 : decode cX0_read 69 = .ok (.bipush 16, 2) := by decide +kernel
theorem dX0_read_71 : decode cX0_read 71 = .ok (.aload_n 0, 1) := by decide +kernel
theorem dX0_read_72 : decode cX0_read 72 = .ok (.getfield 34, 3) := by decide +kernel
theorem dX0_read_75 : decode cX0_read 75 = .ok (.getfield 138, 3) := by decide +kernel
theorem dX0_read_78 : decode cX0_read 78 = .ok (.imul, 1) := by decide +kernel
theorem dX0_read_79 : decode cX0_read 79 = .ok (.aload_n 0, 1) := by decide +kernel
theorem dX0_read_80 : decode cX0_read 80 = .ok (.getfield 34, 3) := by decide +kernel
theorem dX0_read_83 : decode cX0_read 83 = .ok (.getfield 141, 3) := by decide +kernel
theorem dX0_read_86 : decode cX0_read 86 = .ok (.iadd, 1) := by decide +kernel
theorem dX0_read_87 : decode cX0_read 87 = .ok (.ireturn, 1) := by decide +kernel
theorem dX0_read_88 : decode cX0_read 88 = .ok (.aload_n 0, 1) := by decide +kernel
theorem dX0_read_89 : decode cX0_read 89 = .ok (.getfield 41, 3) := by decide +kernel
theorem dX0_read_92 : decode cX0_read 92 = .ok (.aload_n 2, 1) := by decide +kernel
theorem dX0_read_93 : decode cX0_read 93 = .ok (.iload_n 1, 1) := by decide +kernel
theorem dX0_read_94 : decode cX0_read 94 = .ok (.invokevirtual 144, 3) := by decide +kernel
theorem dX0_read_97 : decode cX0_read 97 = .ok (.ifCond .ne 22, 3) := by decide +kernel
theorem dX0_read_100 : decode cX0_read 100 = .ok (.bipush 16, 2) := by decide +kernel
theorem dX0_read_102 : decode cX0_read 102 = .ok (.aload_n 0, 1) := by decide +kernel
theorem dX0_read_103 : decode cX0_read 103 = .ok (.getfield 41, 3) := by decide +kernel
theorem dX0_read_106 : decode cX0_read 106 = .ok (.getfield 148, 3) := by decide +kernel
theorem dX0_read_109 : decode cX0_read 109 = .ok (.imul, 1) := by decide +kernel
theorem dX0_read_110 : decode cX0_read 110 = .ok (.aload_n 0, 1) := by decide +kernel
theorem dX0_read_111 : decode cX0_read 111 = .ok (.getfield 41, 3) := by decide +kernel
theorem dX0_read_114 : decode cX0_read 114 = .ok (.getfield 149, 3) := by decide +kernel
theorem dX0_read_117 : decode cX0_read 117 = .ok (.iadd, 1) := by decide +kernel
theorem dX0_read_118 : decode cX0_read 118 = .ok (.ireturn, 1) := by decide +kernel
theorem dX0_read_119 : decode cX0_read 119 = .ok (.aload_n 0, 1) := by decide +kernel
theorem dX0_read_120 : decode cX0_read 120 = .ok (.aload_n 2, 1) := by decide +kernel
theorem dX0_read_121 : decode cX0_read 121 = .ok (.putfield 109, 3) := by decide +kernel
theorem dX0_read_124 : decode cX0_read 124 = .ok (.iconst 0, 1) := by decide +kernel
theorem dX0_read_125 : decode cX0_read 125 = .ok (.istore_n 3, 1) := by decide +kernel
theorem dX0_read_126 : decode cX0_read 126 = .ok (.iload_n 3, 1) := by decide +kernel
theorem dX0_read_127 : decode cX0_read 127 = .ok (.aload_n 2, 1) := by decide +kernel
theorem dX0_read_128 : decode cX0_read 128 = .ok (.invokevirtual 9, 3) := by decide +kernel
theorem dX0_read_131 : decode cX0_read 131 = .ok (.if_icmp .ge 41, 3) := by decide +kernel
theorem dX0_read_134 : decode cX0_read 134 = .ok (.aload_n 2, 1) := by decide +kernel
theorem dX0_read_135 : decode cX0_read 135 = .ok (.iload_n 3, 1) := by decide +kernel
theorem dX0_read_136 : decode cX0_read 136 = .ok (.invokevirtual 150, 3) := by decide +kernel
theorem dX0_read_139 : decode cX0_read 139 = .ok (.checkcast 153, 3) := by decide +kernel
theorem dX0_read_142 : decode cX0_read 142 = .ok (.getfield 155, 3) := by decide +kernel
theorem dX0_read_145 : decode cX0_read 145 = .ok (.bipush 6, 2) := by decide +kernel
theorem dX0_read_147 : decode cX0_read 147 = .ok (.if_icmp .ne 19, 3) := by decide +kernel
theorem dX0_read_150 : decode cX0_read 150 = .ok (.aload_n 0, 1) := by decide +kernel
theorem dX0_read_151 : decode cX0_read 151 = .ok (.getfield 78, 3) := by decide +kernel
theorem dX0_read_154 : decode cX0_read 154 = .ok (.aload_n 2, 1) := by decide +kernel
theorem dX0_read_155 : decode cX0_read 155 = .ok (.iload_n 3, 1) := by decide +kernel
theorem dX0_read_156 : decode cX0_read 156 = .ok (.invokevirtual 150, 3) := by decide +kernel
theorem dX0_read_159 : decode cX0_read 159 = .ok (.checkcast 153, 3) := by decide +kernel
theorem dX0_read_162 : decode cX0_read 162 = .ok (.invokevirtual 158, 3) := by decide +kernel
theorem dX0_read_165 : decode cX0_read 165 = .ok (.pop, 1) := by decide +kernel
theorem dX0_read_166 : decode cX0_read 166 = .ok (.iinc 3 1, 3) := by decide +kernel
theorem dX0_read_169 : decode cX0_read 169 = .ok (.goto (-43), 3) := by decide +kernel
theorem dX0_read_172 : decode cX0_read 172 = .ok (.aload_n 0, 1) := by decide +kernel
theorem dX0_read_173 : decode cX0_read 173 = .ok (.invokevirtual 162, 3) := by decide +kernel
theorem dX0_read_176 : decode cX0_read 176 = .ok (.iconst 0, 1) := by decide +kernel
theorem dX0_read_177 : decode cX0_read 177 = .ok (.ireturn, 1) := by decide +kernel
theorem dX0_lay_0 : decode cX0_lay 0 = .ok (.aload_n 0, 1) := by decide +kernel
theorem dX0_lay_1 : decode cX0_lay 1 = .ok (.getfield 64, 3) := by decide +kernel
theorem dX0_lay_4 : decode cX0_lay 4 = .ok (.invokevirtual 165, 3) := by decide +kernel
theorem dX0_lay_7 : decode cX0_lay 7 = .ok (.aload_n 0, 1) := by decide +kernel
theorem dX0_lay_8 : decode cX0_lay 8 = .ok (.getfield 73, 3) := by decide +kernel
theorem dX0_lay_11 : decode cX0_lay 11 = .ok (.aload_n 0, 1) := by decide +kernel
theorem dX0_lay_12 : decode cX0_lay 12 = .ok (.getfield 78, 3) := by decide +kernel
theorem dX0_lay_15 : decode cX0_lay 15 = .ok (.invokevirtual 9, 3) := by decide +kernel
theorem dX0_lay_18 : decode cX0_lay 18 = .ok (.invokevirtual 166, 3) := by decide +kernel
theorem dX0_lay_21 : decode cX0_lay 21 = .ok (.aload_n 0, 1) := by decide +kernel
theorem dX0_lay_22 : decode cX0_lay 22 = .ok (.getfield 64, 3) := by decide +kernel
theorem dX0_lay_25 : decode cX0_lay 25 = .ok (.bipush 7, 2) := by decide +kernel
theorem dX0_lay_27 : decode cX0_lay 27 = .ok (.invokevirtual 168, 3) := by decide +kernel
theorem dX0_lay_30 : decode cX0_lay 30 = .ok (.aload_n 0, 1) := by decide +kernel
theorem dX0_lay_31 : decode cX0_lay 31 = .ok (.iconst 0, 1) := by decide +kernel
theorem dX0_lay_32 : decode cX0_lay 32 = .ok (.putfield 171, 3) := by decide +kernel
theorem dX0_lay_35 : decode cX0_lay 35 = .ok (.aload_n 0, 1) := by decide +kernel
theorem dX0_lay_36 : decode cX0_lay 36 = .ok (.iconst 0, 1) := by decide +kernel
theorem dX0_lay_37 : decode cX0_lay 37 = .ok (.putfield 174, 3) := by decide +kernel
theorem dX0_lay_40 : decode cX0_lay 40 = .ok (.iconst 0, 1) := by decide +kernel
theorem dX0_lay_41 : decode cX0_lay 41 = .ok (.istore_n 1, 1) := by decide +kernel
theorem dX0_lay_42 : decode cX0_lay 42 = .ok (.iload_n 1, 1) := by decide +kernel
theorem dX0_lay_43 : decode cX0_lay 43 = .ok (.aload_n 0, 1) := by decide +kernel
theorem dX0_lay_44 : decode cX0_lay 44 = .ok (.getfield 78, 3) := by decide +kernel
theorem dX0_lay_47 : decode cX0_lay 47 = .ok (.invokevirtual 9, 3) := by decide +kernel
theorem dX0_lay_50 : decode cX0_lay 50 = .ok (.if_icmp .ge 84, 3) := by decide +kernel
theorem dX0_lay_53 : decode cX0_lay 53 = .ok (.aload_n 0, 1) := by decide +kernel
theorem dX0_lay_54 : decode cX0_lay 54 = .ok (.getfield 78, 3) := by decide +kernel
theorem dX0_lay_57 : decode cX0_lay 57 = .ok (.iload_n 1, 1) := by decide +kernel
theorem dX0_lay_58 : decode cX0_lay 58 = .ok (.invokevirtual 150, 3) := by decide +kernel
theorem dX0_lay_61 : decode cX0_lay 61 = .ok (.checkcast 153, 3) := by decide +kernel
theorem dX0_lay_64 : decode cX0_lay 64 = .ok (.astore_n 2, 1) := by decide +kernel
theorem dX0_lay_65 : decode cX0_lay 65 = .ok (.aload_n 0, 1) := by decide +kernel
theorem dX0_lay_66 : decode cX0_lay 66 = .ok (.getfield 57, 3) := by decide +kernel
theorem dX0_lay_69 : decode cX0_lay 69 = .ok (.aload_n 2, 1) := by decide +kernel
theorem dX0_lay_70 : decode cX0_lay 70 = .ok (.getfield 177, 3) := by decide +kernel
theorem dX0_lay_73 : decode cX0_lay 73 = .ok (.invokevirtual 181, 3) := by decide +kernel
theorem dX0_lay_76 : decode cX0_lay 76 = .ok (.aload_n 0, 1) := by decide +kernel
theorem dX0_lay_77 : decode cX0_lay 77 = .ok (.getfield 73, 3) := by decide +kernel
theorem dX0_lay_80 : decode cX0_lay 80 = .ok (.aload_n 2, 1) := by decide +kernel
theorem dX0_lay_81 : decode cX0_lay 81 = .ok (.getfield 177, 3) := by decide +kernel
theorem dX0_lay_84 : decode cX0_lay 84 = .ok (.invokevirtual 185, 3) := by decide +kernel
theorem dX0_lay_87 : decode cX0_lay 87 = .ok (.istore_n 3, 1) := by decide +kernel
theorem dX0_lay_88 : decode cX0_lay 88 = .ok (.aload_n 2, 1) := by decide +kernel
theorem dX0_lay_89 : decode cX0_lay 89 = .ok (.aconst_null, 1) := by decide +kernel
theorem dX0_lay_90 : decode cX0_lay 90 = .ok (.putfield 177, 3) := by decide +kernel
theorem dX0_lay_93 : decode cX0_lay 93 = .ok (.aload_n 0, 1) := by decide +kernel
theorem dX0_lay_94 : decode cX0_lay 94 = .ok (.aload_n 0, 1) := by decide +kernel
theorem dX0_lay_95 : decode cX0_lay 95 = .ok (.getfield 174, 3) := by decide +kernel
theorem dX0_lay_98 : decode cX0_lay 98 = .ok (.iload_n 3, 1) := by decide +kernel
theorem dX0_lay_99 : decode cX0_lay 99 = .ok (.iconst 4, 1) := by decide +kernel
theorem dX0_lay_100 : decode cX0_lay 100 = .ok (.idiv, 1) := by decide +kernel
theorem dX0_lay_101 : decode cX0_lay 101 = .ok (.invokestatic 3, 3) := by decide +kernel
theorem dX0_lay_104 : decode cX0_lay 104 = .ok (.putfield 174, 3) := by decide +kernel
theorem dX0_lay_107 : decode cX0_lay 107 = .ok (.aload_n 0, 1) := by decide +kernel
theorem dX0_lay_108 : decode cX0_lay 108 = .ok (.aload_n 0, 1) := by decide +kernel
theorem dX0_lay_109 : decode cX0_lay 109 = .ok (.getfield 171, 3) := by decide +kernel
theorem dX0_lay_112 : decode cX0_lay 112 = .ok (.iconst 4, 1) := by decide +kernel
theorem dX0_lay_113 : decode cX0_lay 113 = .ok (.iload_n 3, 1) := by decide +kernel
theorem dX0_lay_114 : decode cX0_lay 114 = .ok (.imul, 1) := by decide +kernel
theorem dX0_lay_115 : decode cX0_lay 115 = .ok (.aload_n 2, 1) := by decide +kernel
theorem dX0_lay_116 : decode cX0_lay 116 = .ok (.getfield 188, 3) := by decide +kernel
theorem dX0_lay_119 : decode cX0_lay 119 = .ok (.idiv, 1) := by decide +kernel
theorem dX0_lay_120 : decode cX0_lay 120 = .ok (.iconst 1, 1) := by decide +kernel
theorem dX0_lay_121 : decode cX0_lay 121 = .ok (.iadd, 1) := by decide +kernel
theorem dX0_lay_122 : decode cX0_lay 122 = .ok (.invokestatic 3, 3) := by decide +kernel
theorem dX0_lay_125 : decode cX0_lay 125 = .ok (.putfield 171, 3) := by decide +kernel
theorem dX0_lay_128 : decode cX0_lay 128 = .ok (.iinc 1 1, 3) := by decide +kernel
theorem dX0_lay_131 : decode cX0_lay 131 = .ok (.goto (-89), 3) := by decide +kernel
theorem dX0_lay_134 : decode cX0_lay 134 = .ok (.sipush 2048, 3) := by decide +kernel
theorem dX0_lay_137 : decode cX0_lay 137 = .ok (.iconst 2, 1) := by decide +kernel
theorem dX0_lay_138 : decode cX0_lay 138 = .ok (.aload_n 0, 1) := by decide +kernel
theorem dX0_lay_139 : decode cX0_lay 139 = .ok (.getfield 64, 3) := by decide +kernel
theorem dX0_lay_142 : decode cX0_lay 142 = .ok (.getfield 191, 3) := by decide +kernel
theorem dX0_lay_145 : decode cX0_lay 145 = .ok (.imul, 1) := by decide +kernel
theorem dX0_lay_146 : decode cX0_lay 146 = .ok (.iadd, 1) := by decide +kernel
theorem dX0_lay_147 : decode cX0_lay 147 = .ok (.istore_n 1, 1) := by decide +kernel
theorem dX0_lay_148 : decode cX0_lay 148 = .ok (.aload_n 0, 1) := by decide +kernel
theorem dX0_lay_149 : decode cX0_lay 149 = .ok (.getfield 92, 3) := by decide +kernel
theorem dX0_lay_152 : decode cX0_lay 152 = .ok (.aload_n 0, 1) := by decide +kernel
theorem dX0_lay_153 : decode cX0_lay 153 = .ok (.getfield 92, 3) := by decide +kernel
theorem dX0_lay_156 : decode cX0_lay 156 = .ok (.getfield 99, 3) := by decide +kernel
theorem dX0_lay_159 : decode cX0_lay 159 = .ok (.iload_n 1, 1) := by decide +kernel
theorem dX0_lay_160 : decode cX0_lay 160 = .ok (.invokestatic 194, 3) := by decide +kernel
theorem dX0_lay_163 : decode cX0_lay 163 = .ok (.putfield 99, 3) := by decide +kernel
theorem dX0_lay_166 : decode cX0_lay 166 = .ok (.aload_n 0, 1) := by decide +kernel
theorem dX0_lay_167 : decode cX0_lay 167 = .ok (.aload_n 0, 1) := by decide +kernel
theorem dX0_lay_168 : decode cX0_lay 168 = .ok (.getfield 64, 3) := by decide +kernel
theorem dX0_lay_171 : decode cX0_lay 171 = .ok (.aload_n 0, 1) := by decide +kernel
theorem dX0_lay_172 : decode cX0_lay 172 = .ok (.getfield 92, 3) := by decide +kernel
theorem dX0_lay_175 : decode cX0_lay 175 = .ok (.getfield 99, 3) := by decide +kernel
theorem dX0_lay_178 : decode cX0_lay 178 = .ok (.sipush 2048, 3) := by decide +kernel
theorem dX0_lay_181 : decode cX0_lay 181 = .ok (.invokevirtual 198, 3) := by decide +kernel
theorem dX0_lay_184 : decode cX0_lay 184 = .ok (.putfield 201, 3) := by decide +kernel
theorem dX0_lay_187 : decode cX0_lay 187 = .ok (.aload_n 0, 1) := by decide +kernel
theorem dX0_lay_188 : decode cX0_lay 188 = .ok (.iconst 4, 1) := by decide +kernel
theorem dX0_lay_189 : decode cX0_lay 189 = .ok (.aload_n 0, 1) := by decide +kernel
theorem dX0_lay_190 : decode cX0_lay 190 = .ok (.getfield 64, 3) := by decide +kernel
theorem dX0_lay_193 : decode cX0_lay 193 = .ok (.getfield 203, 3) := by decide +kernel
theorem dX0_lay_196 : decode cX0_lay 196 = .ok (.aload_n 0, 1) := by decide +kernel
theorem dX0_lay_197 : decode cX0_lay 197 = .ok (.getfield 64, 3) := by decide +kernel
theorem dX0_lay_200 : decode cX0_lay 200 = .ok (.getfield 206, 3) := by decide +kernel
theorem dX0_lay_203 : decode cX0_lay 203 = .ok (.aload_n 0, 1) := by decide +kernel
theorem dX0_lay_204 : decode cX0_lay 204 = .ok (.getfield 73, 3) := by decide +kernel
theorem dX0_lay_207 : decode cX0_lay 207 = .ok (.getfield 209, 3) := by decide +kernel
theorem dX0_lay_210 : decode cX0_lay 210 = .ok (.aload_n 0, 1) := by decide +kernel
theorem dX0_lay_211 : decode cX0_lay 211 = .ok (.getfield 41, 3) := by decide +kernel
theorem dX0_lay_214 : decode cX0_lay 214 = .ok (.invokevirtual 212, 3) := by decide +kernel
theorem dX0_lay_217 : decode cX0_lay 217 = .ok (.getfield 216, 3) := by decide +kernel
theorem dX0_lay_220 : decode cX0_lay 220 = .ok (.iaload, 1) := by decide +kernel
theorem dX0_lay_221 : decode cX0_lay 221 = .ok (.iaload, 1) := by decide +kernel
theorem dX0_lay_222 : decode cX0_lay 222 = .ok (.iaload, 1) := by decide +kernel
theorem dX0_lay_223 : decode cX0_lay 223 = .ok (.imul, 1) := by decide +kernel
theorem dX0_lay_224 : decode cX0_lay 224 = .ok (.putfield 219, 3) := by decide +kernel
theorem dX0_lay_227 : decode cX0_lay 227 = .ok (.return_, 1) := by decide +kernel
theorem dX0_look_0 : decode cX0_look 0 = .ok (.aload_n 0, 1) := by decide +kernel
theorem dX0_look_1 : decode cX0_look 1 = .ok (.getfield 109, 3) := by decide +kernel
theorem dX0_look_4 : decode cX0_look 4 = .ok (.ifnonnull 5, 3) := by decide +kernel
theorem dX0_look_7 : decode cX0_look 7 = .ok (.iconst (-1), 1) := by decide +kernel
theorem dX0_look_8 : decode cX0_look 8 = .ok (.ireturn, 1) := by decide +kernel
theorem dX0_look_9 : decode cX0_look 9 = .ok (.iload_n 1, 1) := by decide +kernel
theorem dX0_look_10 : decode cX0_look 10 = .ok (.ifCond .ne 11, 3) := by decide +kernel
theorem dX0_look_13 : decode cX0_look 13 = .ok (.aload_n 0, 1) := by decide +kernel
theorem dX0_look_14 : decode cX0_look 14 = .ok (.getfield 78, 3) := by decide +kernel
theorem dX0_look_17 : decode cX0_look 17 = .ok (.invokevirtual 9, 3) := by decide +kernel
theorem dX0_look_20 : decode cX0_look 20 = .ok (.ireturn, 1) := by decide +kernel
theorem dX0_look_21 : decode cX0_look 21 = .ok (.iload_n 1, 1) := by decide +kernel
theorem dX0_look_22 : decode cX0_look 22 = .ok (.iconst 1, 1) := by decide +kernel
theorem dX0_look_23 : decode cX0_look 23 = .ok (.if_icmp .ne 11, 3) := by decide +kernel
theorem dX0_look_26 : decode cX0_look 26 = .ok (.aload_n 0, 1) := by decide +kernel
theorem dX0_look_27 : decode cX0_look 27 = .ok (.getfield 41, 3) := by decide +kernel
theorem dX0_look_30 : decode cX0_look 30 = .ok (.getfield 222, 3) := by decide +kernel
theorem dX0_look_33 : decode cX0_look 33 = .ok (.ireturn, 1) := by decide +kernel
theorem dX0_look_34 : decode cX0_look 34 = .ok (.iload_n 2, 1) := by decide +kernel
theorem dX0_look_35 : decode cX0_look 35 = .ok (.ifCond .lt 14, 3) := by decide +kernel
theorem dX0_look_38 : decode cX0_look 38 = .ok (.iload_n 2, 1) := by decide +kernel
theorem dX0_look_39 : decode cX0_look 39 = .ok (.aload_n 0, 1) := by decide +kernel
theorem dX0_look_40 : decode cX0_look 40 = .ok (.getfield 78, 3) := by decide +kernel
theorem dX0_look_43 : decode cX0_look 43 = .ok (.invokevirtual 9, 3) := by decide +kernel
theorem dX0_look_46 : decode cX0_look 46 = .ok (.if_icmp .lt 5, 3) := by decide +kernel
theorem dX0_look_49 : decode cX0_look 49 = .ok (.iconst (-1), 1) := by decide +kernel
theorem dX0_look_50 : decode cX0_look 50 = .ok (.ireturn, 1) := by decide +kernel
theorem dX0_look_51 : decode cX0_look 51 = .ok (.aload_n 0, 1) := by decide +kernel
theorem dX0_look_52 : decode cX0_look 52 = .ok (.getfield 78, 3) := by decide +kernel
theorem dX0_look_55 : decode cX0_look 55 = .ok (.iload_n 2, 1) := by decide +kernel
theorem dX0_look_56 : decode cX0_look 56 = .ok (.invokevirtual 150, 3) := by decide +kernel
theorem dX0_look_59 : decode cX0_look 59 = .ok (.checkcast 153, 3) := by decide +kernel
theorem dX0_look_62 : decode cX0_look 62 = .ok (.astore_n 3, 1) := by decide +kernel
theorem dX0_look_63 : decode cX0_look 63 = .ok (.iload_n 1, 1) := by decide +kernel
theorem dX0_look_64 : decode cX0_look 64 = .ok (.tableswitch 63 2 5 #[32, 37, 45, 50], 32) := by decide +kernel
theorem dX0_look_96 : decode cX0_look 96 = .ok (.aload_n 3, 1) := by decide +kernel
theorem dX0_look_97 : decode cX0_look 97 = .ok (.getfield 225, 3) := by decide +kernel
theorem dX0_look_100 : decode cX0_look 100 = .ok (.ireturn, 1) := by decide +kernel
theorem dX0_look_101 : decode cX0_look 101 = .ok (.aload_n 3, 1) := by decide +kernel
theorem dX0_look_102 : decode cX0_look 102 = .ok (.getfield 226, 3) := by decide +kernel
theorem dX0_look_105 : decode cX0_look 105 = .ok (.invokevirtual 9, 3) := by decide +kernel
theorem dX0_look_108 : decode cX0_look 108 = .ok (.ireturn, 1) := by decide +kernel
theorem dX0_look_109 : decode cX0_look 109 = .ok (.aload_n 3, 1) := by decide +kernel
theorem dX0_look_110 : decode cX0_look 110 = .ok (.getfield 188, 3) := by decide +kernel
theorem dX0_look_113 : decode cX0_look 113 = .ok (.ireturn, 1) := by decide +kernel
theorem dX0_look_114 : decode cX0_look 114 = .ok (.aload_n 3, 1) := by decide +kernel
theorem dX0_look_115 : decode cX0_look 115 = .ok (.getfield 229, 3) := by decide +kernel
theorem dX0_look_118 : decode cX0_look 118 = .ok (.ifCond .eq 7, 3) := by decide +kernel
theorem dX0_look_121 : decode cX0_look 121 = .ok (.iconst 0, 1) := by decide +kernel
theorem dX0_look_122 : decode cX0_look 122 = .ok (.goto 4, 3) := by decide +kernel
theorem dX0_look_125 : decode cX0_look 125 = .ok (.iconst 1, 1) := by decide +kernel
theorem dX0_look_126 : decode cX0_look 126 = .ok (.ireturn, 1) := by decide +kernel
theorem dX0_look_127 : decode cX0_look 127 = .ok (.iconst (-1), 1) := by decide +kernel
theorem dX0_look_128 : decode cX0_look 128 = .ok (.ireturn, 1) := by decide +kernel
theorem dX0_give_0 : decode cX0_give 0 = .ok (.aload_n 0, 1) := by decide +kernel
theorem dX0_give_1 : decode cX0_give 1 = .ok (.getfield 109, 3) := by decide +kernel
theorem dX0_give_4 : decode cX0_give 4 = .ok (.ifnull 13, 3) := by decide +kernel
theorem dX0_give_7 : decode cX0_give 7 = .ok (.aload_n 0, 1) := by decide +kernel
theorem dX0_give_8 : decode cX0_give 8 = .ok (.getfield 115, 3) := by decide +kernel
theorem dX0_give_11 : decode cX0_give 11 = .ok (.sipush 500, 3) := by decide +kernel
theorem dX0_give_14 : decode cX0_give 14 = .ok (.if_icmp .ne 5, 3) := by decide +kernel
theorem dX0_give_17 : decode cX0_give 17 = .ok (.iconst (-1), 1) := by decide +kernel
theorem dX0_give_18 : decode cX0_give 18 = .ok (.ireturn, 1) := by decide +kernel
theorem dX0_give_19 : decode cX0_give 19 = .ok (.aload_n 0, 1) := by decide +kernel
theorem dX0_give_20 : decode cX0_give 20 = .ok (.getfield 82, 3) := by decide +kernel
theorem dX0_give_23 : decode cX0_give 23 = .ok (.aload_n 0, 1) := by decide +kernel
theorem dX0_give_24 : decode cX0_give 24 = .ok (.getfield 115, 3) := by decide +kernel
theorem dX0_give_27 : decode cX0_give 27 = .ok (.iload_n 1, 1) := by decide +kernel
theorem dX0_give_28 : decode cX0_give 28 = .ok (.iastore, 1) := by decide +kernel
theorem dX0_give_29 : decode cX0_give 29 = .ok (.aload_n 0, 1) := by decide +kernel
theorem dX0_give_30 : decode cX0_give 30 = .ok (.dup, 1) := by decide +kernel
theorem dX0_give_31 : decode cX0_give 31 = .ok (.getfield 115, 3) := by decide +kernel
theorem dX0_give_34 : decode cX0_give 34 = .ok (.iconst 1, 1) := by decide +kernel
theorem dX0_give_35 : decode cX0_give 35 = .ok (.iadd, 1) := by decide +kernel
theorem dX0_give_36 : decode cX0_give 36 = .ok (.putfield 115, 3) := by decide +kernel
theorem dX0_give_39 : decode cX0_give 39 = .ok (.aload_n 0, 1) := by decide +kernel
theorem dX0_give_40 : decode cX0_give 40 = .ok (.getfield 115, 3) := by decide +kernel
theorem dX0_give_43 : decode cX0_give 43 = .ok (.ireturn, 1) := by decide +kernel
theorem dX0_begin_0 : decode cX0_begin 0 = .ok (.aload_n 0, 1) := by decide +kernel
theorem dX0_begin_1 : decode cX0_begin 1 = .ok (.getfield 109, 3) := by decide +kernel
theorem dX0_begin_4 : decode cX0_begin 4 = .ok (.ifnull 15, 3) := by decide +kernel
theorem dX0_begin_7 : decode cX0_begin 7 = .ok (.iload_n 1, 1) := by decide +kernel
theorem dX0_begin_8 : decode cX0_begin 8 = .ok (.iconst 4, 1) := by decide +kernel
theorem dX0_begin_9 : decode cX0_begin 9 = .ok (.if_icmp .lt 10, 3) := by decide +kernel
theorem dX0_begin_12 : decode cX0_begin 12 = .ok (.iload_n 1, 1) := by decide +kernel
theorem dX0_begin_13 : decode cX0_begin 13 = .ok (.sipush 2000, 3) := by decide +kernel
theorem dX0_begin_16 : decode cX0_begin 16 = .ok (.if_icmp .le 5, 3) := by decide +kernel
theorem dX0_begin_19 : decode cX0_begin 19 = .ok (.iconst 0, 1) := by decide +kernel
theorem dX0_begin_20 : decode cX0_begin 20 = .ok (.ireturn, 1) := by decide +kernel
theorem dX0_begin_21 : decode cX0_begin 21 = .ok (.aload_n 0, 1) := by decide +kernel
theorem dX0_begin_22 : decode cX0_begin 22 = .ok (.getfield 171, 3) := by decide +kernel
theorem dX0_begin_25 : decode cX0_begin 25 = .ok (.i2l, 1) := by decide +kernel
theorem dX0_begin_26 : decode cX0_begin 26 = .ok (.iload_n 1, 1) := by decide +kernel
theorem dX0_begin_27 : decode cX0_begin 27 = .ok (.i2l, 1) := by decide +kernel
theorem dX0_begin_28 : decode cX0_begin 28 = .ok (.lmul, 1) := by decide +kernel
theorem dX0_begin_29 : decode cX0_begin 29 = .ok (.ldc2_w 232, 3) := by decide +kernel
theorem dX0_begin_32 : decode cX0_begin 32 = .ok (.ldiv, 1) := by decide +kernel
theorem dX0_begin_33 : decode cX0_begin 33 = .ok (.l2i, 1) := by decide +kernel
theorem dX0_begin_34 : decode cX0_begin 34 = .ok (.aload_n 0, 1) := by decide +kernel
theorem dX0_begin_35 : decode cX0_begin 35 = .ok (.getfield 174, 3) := by decide +kernel
theorem dX0_begin_38 : decode cX0_begin 38 = .ok (.iadd, 1) := by decide +kernel
theorem dX0_begin_39 : decode cX0_begin 39 = .ok (.bipush 16, 2) := by decide +kernel
theorem dX0_begin_41 : decode cX0_begin 41 = .ok (.iadd, 1) := by decide +kernel
theorem dX0_begin_42 : decode cX0_begin 42 = .ok (.istore_n 2, 1) := by decide +kernel
theorem dX0_begin_43 : decode cX0_begin 43 = .ok (.sipush 2048, 3) := by decide +kernel
theorem dX0_begin_46 : decode cX0_begin 46 = .ok (.aload_n 0, 1) := by decide +kernel
theorem dX0_begin_47 : decode cX0_begin 47 = .ok (.getfield 201, 3) := by decide +kernel
theorem dX0_begin_50 : decode cX0_begin 50 = .ok (.iadd, 1) := by decide +kernel
theorem dX0_begin_51 : decode cX0_begin 51 = .ok (.iload_n 2, 1) := by decide +kernel
theorem dX0_begin_52 : decode cX0_begin 52 = .ok (.iadd, 1) := by decide +kernel
theorem dX0_begin_53 : decode cX0_begin 53 = .ok (.istore_n 3, 1) := by decide +kernel
theorem dX0_begin_54 : decode cX0_begin 54 = .ok (.aload_n 0, 1) := by decide +kernel
theorem dX0_begin_55 : decode cX0_begin 55 = .ok (.getfield 92, 3) := by decide +kernel
theorem dX0_begin_58 : decode cX0_begin 58 = .ok (.getfield 99, 3) := by decide +kernel
theorem dX0_begin_61 : decode cX0_begin 61 = .ok (.arraylength, 1) := by decide +kernel
theorem dX0_begin_62 : decode cX0_begin 62 = .ok (.iload_n 3, 1) := by decide +kernel
theorem dX0_begin_63 : decode cX0_begin 63 = .ok (.if_icmp .ge 67, 3) := by decide +kernel
theorem dX0_begin_66 : decode cX0_begin 66 = .ok (.iload_n 3, 1) := by decide +kernel
theorem dX0_begin_67 : decode cX0_begin 67 = .ok (.iconst 2, 1) := by decide +kernel
theorem dX0_begin_68 : decode cX0_begin 68 = .ok (.aload_n 0, 1) := by decide +kernel
theorem dX0_begin_69 : decode cX0_begin 69 = .ok (.getfield 92, 3) := by decide +kernel
theorem dX0_begin_72 : decode cX0_begin 72 = .ok (.getfield 99, 3) := by decide +kernel
theorem dX0_begin_75 : decode cX0_begin 75 = .ok (.arraylength, 1) := by decide +kernel
theorem dX0_begin_76 : decode cX0_begin 76 = .ok (.imul, 1) := by decide +kernel
theorem dX0_begin_77 : decode cX0_begin 77 = .ok (.invokestatic 3, 3) := by decide +kernel
theorem dX0_begin_80 : decode cX0_begin 80 = .ok (.newarray .int, 2) := by decide +kernel
theorem dX0_begin_82 : decode cX0_begin 82 = .ok (.astore 4, 2) := by decide +kernel
theorem dX0_begin_84 : decode cX0_begin 84 = .ok (.iconst 0, 1) := by decide +kernel
theorem dX0_begin_85 : decode cX0_begin 85 = .ok (.istore 5, 2) := by decide +kernel
theorem dX0_begin_87 : decode cX0_begin 87 = .ok (.iload 5, 2) := by decide +kernel
theorem dX0_begin_89 : decode cX0_begin 89 = .ok (.sipush 2048, 3) := by decide +kernel
theorem dX0_begin_92 : decode cX0_begin 92 = .ok (.aload_n 0, 1) := by decide +kernel
theorem dX0_begin_93 : decode cX0_begin 93 = .ok (.getfield 201, 3) := by decide +kernel
theorem dX0_begin_96 : decode cX0_begin 96 = .ok (.iadd, 1) := by decide +kernel
theorem dX0_begin_97 : decode cX0_begin 97 = .ok (.if_icmp .ge 24, 3) := by decide +kernel
theorem dX0_begin_100 : decode cX0_begin 100 = .ok (.aload 4, 2) := by decide +kernel
theorem dX0_begin_102 : decode cX0_begin 102 = .ok (.iload 5, 2) := by decide +kernel
theorem dX0_begin_104 : decode cX0_begin 104 = .ok (.aload_n 0, 1) := by decide +kernel
theorem dX0_begin_105 : decode cX0_begin 105 = .ok (.getfield 92, 3) := by decide +kernel
theorem dX0_begin_108 : decode cX0_begin 108 = .ok (.getfield 99, 3) := by decide +kernel
theorem dX0_begin_111 : decode cX0_begin 111 = .ok (.iload 5, 2) := by decide +kernel
theorem dX0_begin_113 : decode cX0_begin 113 = .ok (.iaload, 1) := by decide +kernel
theorem dX0_begin_114 : decode cX0_begin 114 = .ok (.iastore, 1) := by decide +kernel
theorem dX0_begin_115 : decode cX0_begin 115 = .ok (.iinc 5 1, 3) := by decide +kernel
theorem dX0_begin_118 : decode cX0_begin 118 = .ok (.goto (-31), 3) := by decide +kernel
theorem dX0_begin_121 : decode cX0_begin 121 = .ok (.aload_n 0, 1) := by decide +kernel
theorem dX0_begin_122 : decode cX0_begin 122 = .ok (.getfield 92, 3) := by decide +kernel
theorem dX0_begin_125 : decode cX0_begin 125 = .ok (.aload 4, 2) := by decide +kernel
theorem dX0_begin_127 : decode cX0_begin 127 = .ok (.putfield 99, 3) := by decide +kernel
theorem dX0_begin_130 : decode cX0_begin 130 = .ok (.iconst 0, 1) := by decide +kernel
theorem dX0_begin_131 : decode cX0_begin 131 = .ok (.istore 4, 2) := by decide +kernel
theorem dX0_begin_133 : decode cX0_begin 133 = .ok (.iload 4, 2) := by decide +kernel
theorem dX0_begin_135 : decode cX0_begin 135 = .ok (.sipush 2000, 3) := by decide +kernel
theorem dX0_begin_138 : decode cX0_begin 138 = .ok (.if_icmp .ge 29, 3) := by decide +kernel
theorem dX0_begin_141 : decode cX0_begin 141 = .ok (.aload_n 0, 1) := by decide +kernel
theorem dX0_begin_142 : decode cX0_begin 142 = .ok (.getfield 92, 3) := by decide +kernel
theorem dX0_begin_145 : decode cX0_begin 145 = .ok (.getfield 99, 3) := by decide +kernel
theorem dX0_begin_148 : decode cX0_begin 148 = .ok (.iload 4, 2) := by decide +kernel
theorem dX0_begin_150 : decode cX0_begin 150 = .ok (.aload_n 0, 1) := by decide +kernel
theorem dX0_begin_151 : decode cX0_begin 151 = .ok (.getfield 41, 3) := by decide +kernel
theorem dX0_begin_154 : decode cX0_begin 154 = .ok (.getfield 234, 3) := by decide +kernel
theorem dX0_begin_157 : decode cX0_begin 157 = .ok (.iload 4, 2) := by decide +kernel
theorem dX0_begin_159 : decode cX0_begin 159 = .ok (.iaload, 1) := by decide +kernel
theorem dX0_begin_160 : decode cX0_begin 160 = .ok (.iastore, 1) := by decide +kernel
theorem dX0_begin_161 : decode cX0_begin 161 = .ok (.iinc 4 1, 3) := by decide +kernel
theorem dX0_begin_164 : decode cX0_begin 164 = .ok (.goto (-31), 3) := by decide +kernel
theorem dX0_begin_167 : decode cX0_begin 167 = .ok (.aload_n 0, 1) := by decide +kernel
theorem dX0_begin_168 : decode cX0_begin 168 = .ok (.iload_n 1, 1) := by decide +kernel
theorem dX0_begin_169 : decode cX0_begin 169 = .ok (.putfield 127, 3) := by decide +kernel
theorem dX0_begin_172 : decode cX0_begin 172 = .ok (.aload_n 0, 1) := by decide +kernel
theorem dX0_begin_173 : decode cX0_begin 173 = .ok (.iconst 1, 1) := by decide +kernel
theorem dX0_begin_174 : decode cX0_begin 174 = .ok (.putfield 121, 3) := by decide +kernel
theorem dX0_begin_177 : decode cX0_begin 177 = .ok (.aload_n 0, 1) := by decide +kernel
theorem dX0_begin_178 : decode cX0_begin 178 = .ok (.iconst 0, 1) := by decide +kernel
theorem dX0_begin_179 : decode cX0_begin 179 = .ok (.putfield 124, 3) := by decide +kernel
theorem dX0_begin_182 : decode cX0_begin 182 = .ok (.aload_n 0, 1) := by decide +kernel
theorem dX0_begin_183 : decode cX0_begin 183 = .ok (.iconst 0, 1) := by decide +kernel
theorem dX0_begin_184 : decode cX0_begin 184 = .ok (.putfield 118, 3) := by decide +kernel
theorem dX0_begin_187 : decode cX0_begin 187 = .ok (.aload_n 0, 1) := by decide +kernel
theorem dX0_begin_188 : decode cX0_begin 188 = .ok (.iconst 0, 1) := by decide +kernel
theorem dX0_begin_189 : decode cX0_begin 189 = .ok (.putfield 237, 3) := by decide +kernel
theorem dX0_begin_192 : decode cX0_begin 192 = .ok (.aload_n 0, 1) := by decide +kernel
theorem dX0_begin_193 : decode cX0_begin 193 = .ok (.iconst (-1), 1) := by decide +kernel
theorem dX0_begin_194 : decode cX0_begin 194 = .ok (.putfield 240, 3) := by decide +kernel
theorem dX0_begin_197 : decode cX0_begin 197 = .ok (.aload_n 0, 1) := by decide +kernel
theorem dX0_begin_198 : decode cX0_begin 198 = .ok (.iconst 0, 1) := by decide +kernel
theorem dX0_begin_199 : decode cX0_begin 199 = .ok (.putfield 130, 3) := by decide +kernel
theorem dX0_begin_202 : decode cX0_begin 202 = .ok (.iconst 1, 1) := by decide +kernel
theorem dX0_begin_203 : decode cX0_begin 203 = .ok (.ireturn, 1) := by decide +kernel
