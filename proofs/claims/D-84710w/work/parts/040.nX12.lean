/-! names: X12 (tools/names.py) -/
set_option maxRecDepth 100000
abbrev cX12_init : ByteArray := prog_28_method_1_code
def yX12_init : MethodName := ⟨RX12, "<init>", "()V"⟩
theorem q844 : (Jvm.Cond.code ({ cls := "CompiledHouse$Processor", name := "<init>", desc := "()V" } : Jvm.MethodName) prog_28_method_1_code (1 : Nat) (Option.none : Option Jvm.ClassFile.FieldType)) ∈ lw_all := lw_g (lw_at lw_m3 168 rfl) rfl
def kX12_init : xK := (yX12_init, cX12_init, 1, none, [])
theorem me_X12_init : xMe kX12_init 0 := ⟨q844, q215, by decide, by decide, by decide +kernel⟩
theorem q843 : (Jvm.Cond.instanceMethod ({ cls := "CompiledHouse$Processor", name := "<init>", desc := "()V" } : Jvm.MethodName)) ∈ lw_all := lw_g (lw_at lw_m3 167 rfl) rfl
theorem is_X12_init : Cond.instanceMethod kX12_init.y ∈ lw_all := q843
theorem q845 : (Jvm.Cond.methodLink "CompiledHouse$Processor" (3 : Nat) ({ cls := "java/lang/Object", name := "<init>", desc := "()V" } : Jvm.MethodName)) ∈ lw_all := lw_g (lw_at lw_m3 169 rfl) rfl
theorem lk_X12_3 : xLk RX12 3 yJ18_init := Or.inl q845
theorem q848 : (Jvm.Cond.fieldLink "CompiledHouse$Processor" (9 : Nat) "CompiledHouse$Processor" "x" "[I") ∈ lw_all := lw_g (lw_at lw_m3 172 rfl) rfl
theorem f_X12_9_11 : xF RX12 9 11 1 := ⟨_, "CompiledHouse$Processor", rfl, by decide, Or.inl q848, Or.inl rfl⟩
abbrev cX12_go : ByteArray := prog_28_method_2_code
def yX12_go : MethodName := ⟨RX12, "go", "(I)I"⟩
theorem q2886 : (Jvm.Cond.code ({ cls := "CompiledHouse$Processor", name := "go", desc := "(I)I" } : Jvm.MethodName) prog_28_method_2_code (4 : Nat) (Option.some Jvm.ClassFile.FieldType.int)) ∈ lw_all := lw_g (lw_at lw_m12 50 rfl) rfl
def kX12_go : xK := (yX12_go, cX12_go, 4, some .int, [])
theorem me_X12_go : xMe kX12_go 1 := ⟨q2886, q215, by decide, by decide, by decide +kernel⟩
theorem q2884 : (Jvm.Cond.instanceMethod ({ cls := "CompiledHouse$Processor", name := "go", desc := "(I)I" } : Jvm.MethodName)) ∈ lw_all := lw_g (lw_at lw_m12 48 rfl) rfl
theorem is_X12_go : Cond.instanceMethod kX12_go.y ∈ lw_all := q2884
theorem se_X12_go : Cond.selects RX12 kX12_go.y kX12_go.y ∈ lw_all := q2885
theorem q2887 : (Jvm.Cond.methodLink "CompiledHouse$Processor" (15 : Nat) ({ cls := "CompiledHouse$Processor", name := "step", desc := "()I" } : Jvm.MethodName)) ∈ lw_all := lw_g (lw_at lw_m12 51 rfl) rfl
abbrev cX12_step : ByteArray := prog_28_method_3_code
def yX12_step : MethodName := ⟨RX12, "step", "()I"⟩
theorem q2890 : (Jvm.Cond.code ({ cls := "CompiledHouse$Processor", name := "step", desc := "()I" } : Jvm.MethodName) prog_28_method_3_code (5 : Nat) (Option.some Jvm.ClassFile.FieldType.int)) ∈ lw_all := lw_g (lw_at lw_m12 54 rfl) rfl
def kX12_step : xK := (yX12_step, cX12_step, 5, some .int, [])
theorem me_X12_step : xMe kX12_step 0 := ⟨q2890, q215, by decide, by decide, by decide +kernel⟩
theorem q2889 : (Jvm.Cond.instanceMethod ({ cls := "CompiledHouse$Processor", name := "step", desc := "()I" } : Jvm.MethodName)) ∈ lw_all := lw_g (lw_at lw_m12 53 rfl) rfl
theorem is_X12_step : Cond.instanceMethod kX12_step.y ∈ lw_all := q2889
theorem se_X12_step : Cond.selects RX12 kX12_step.y kX12_step.y ∈ lw_all := qs109
theorem lk_X12_15 : xLk RX12 15 yX12_step := Or.inl q2887
theorem q850 : (Jvm.Cond.fieldLink "CompiledHouse$Processor" (19 : Nat) "CompiledHouse$Processor" "pc" "I") ∈ lw_all := lw_g (lw_at lw_m3 174 rfl) rfl
theorem f_X12_19_11 : xF RX12 19 11 2 := ⟨_, "CompiledHouse$Processor", rfl, by decide, Or.inl q850, Or.inl rfl⟩
theorem q846 : (Jvm.Cond.fieldLink "CompiledHouse$Processor" (23 : Nat) "CompiledHouse$Processor" "memory" "[I") ∈ lw_all := lw_g (lw_at lw_m3 170 rfl) rfl
theorem f_X12_23_11 : xF RX12 23 11 0 := ⟨_, "CompiledHouse$Processor", rfl, by decide, Or.inl q846, Or.inl rfl⟩
theorem q2891 : (Jvm.Cond.methodLink "CompiledHouse$Processor" (26 : Nat) ({ cls := "CompiledHouse$Processor", name := "makes", desc := "(II)I" } : Jvm.MethodName)) ∈ lw_all := lw_g (lw_at lw_m12 55 rfl) rfl
abbrev cX12_makes : ByteArray := prog_28_method_5_code
def yX12_makes : MethodName := ⟨RX12, "makes", "(II)I"⟩
theorem q2894 : (Jvm.Cond.code ({ cls := "CompiledHouse$Processor", name := "makes", desc := "(II)I" } : Jvm.MethodName) prog_28_method_5_code (4 : Nat) (Option.some Jvm.ClassFile.FieldType.int)) ∈ lw_all := lw_g (lw_at lw_m12 58 rfl) rfl
def kX12_makes : xK := (yX12_makes, cX12_makes, 4, some .int, [])
theorem me_X12_makes : xMe kX12_makes 2 := ⟨q2894, q215, by decide, by decide, by decide +kernel⟩
theorem q2893 : (Jvm.Cond.instanceMethod ({ cls := "CompiledHouse$Processor", name := "makes", desc := "(II)I" } : Jvm.MethodName)) ∈ lw_all := lw_g (lw_at lw_m12 57 rfl) rfl
theorem is_X12_makes : Cond.instanceMethod kX12_makes.y ∈ lw_all := q2893
theorem se_X12_makes : Cond.selects RX12 kX12_makes.y kX12_makes.y ∈ lw_all := qs110
theorem lk_X12_26 : xLk RX12 26 yX12_makes := Or.inl q2891
theorem q2899 : (Jvm.Cond.constant "CompiledHouse$Processor" (30 : Nat) (1044480 : Int32)) ∈ lw_all := lw_g (lw_at lw_m12 63 rfl) rfl
theorem q2900 : (Jvm.Cond.methodLink "CompiledHouse$Processor" (31 : Nat) ({ cls := "CompiledHouse$Processor", name := "jumps", desc := "(II)I" } : Jvm.MethodName)) ∈ lw_all := lw_g (lw_at lw_m12 64 rfl) rfl
abbrev cX12_jumps : ByteArray := prog_28_method_6_code
def yX12_jumps : MethodName := ⟨RX12, "jumps", "(II)I"⟩
theorem q2903 : (Jvm.Cond.code ({ cls := "CompiledHouse$Processor", name := "jumps", desc := "(II)I" } : Jvm.MethodName) prog_28_method_6_code (4 : Nat) (Option.some Jvm.ClassFile.FieldType.int)) ∈ lw_all := lw_g (lw_at lw_m12 67 rfl) rfl
def kX12_jumps : xK := (yX12_jumps, cX12_jumps, 4, some .int, [])
theorem me_X12_jumps : xMe kX12_jumps 2 := ⟨q2903, q215, by decide, by decide, by decide +kernel⟩
theorem q2902 : (Jvm.Cond.instanceMethod ({ cls := "CompiledHouse$Processor", name := "jumps", desc := "(II)I" } : Jvm.MethodName)) ∈ lw_all := lw_g (lw_at lw_m12 66 rfl) rfl
theorem is_X12_jumps : Cond.instanceMethod kX12_jumps.y ∈ lw_all := q2902
theorem se_X12_jumps : Cond.selects RX12 kX12_jumps.y kX12_jumps.y ∈ lw_all := qs112
theorem lk_X12_31 : xLk RX12 31 yX12_jumps := Or.inl q2900
theorem q2904 : (Jvm.Cond.methodLink "CompiledHouse$Processor" (34 : Nat) ({ cls := "CompiledHouse$Processor", name := "goes", desc := "(III)Z" } : Jvm.MethodName)) ∈ lw_all := lw_g (lw_at lw_m12 68 rfl) rfl
abbrev cX12_goes : ByteArray := prog_28_method_7_code
def yX12_goes : MethodName := ⟨RX12, "goes", "(III)Z"⟩
theorem q2906 : (Jvm.Cond.code ({ cls := "CompiledHouse$Processor", name := "goes", desc := "(III)Z" } : Jvm.MethodName) prog_28_method_7_code (4 : Nat) (Option.some Jvm.ClassFile.FieldType.boolean)) ∈ lw_all := lw_g (lw_at lw_m12 70 rfl) rfl
def kX12_goes : xK := (yX12_goes, cX12_goes, 4, some .boolean, [])
theorem me_X12_goes : xMe kX12_goes 3 := ⟨q2906, q215, by decide, by decide, by decide +kernel⟩
theorem q2905 : (Jvm.Cond.static ({ cls := "CompiledHouse$Processor", name := "goes", desc := "(III)Z" } : Jvm.MethodName)) ∈ lw_all := lw_g (lw_at lw_m12 69 rfl) rfl
theorem st_X12_goes : Cond.static kX12_goes.y ∈ lw_all := q2905
theorem lk_X12_34 : xLk RX12 34 yX12_goes := Or.inl q2904
theorem q2908 : (Jvm.Cond.methodLink "CompiledHouse$Processor" (38 : Nat) ({ cls := "CompiledHouse$Processor", name := "goesOn", desc := "(IZ)I" } : Jvm.MethodName)) ∈ lw_all := lw_g (lw_at lw_m12 72 rfl) rfl
abbrev cX12_goesOn : ByteArray := prog_28_method_8_code
def yX12_goesOn : MethodName := ⟨RX12, "goesOn", "(IZ)I"⟩
theorem q2911 : (Jvm.Cond.code ({ cls := "CompiledHouse$Processor", name := "goesOn", desc := "(IZ)I" } : Jvm.MethodName) prog_28_method_8_code (4 : Nat) (Option.some Jvm.ClassFile.FieldType.int)) ∈ lw_all := lw_g (lw_at lw_m12 75 rfl) rfl
def kX12_goesOn : xK := (yX12_goesOn, cX12_goesOn, 4, some .int, [])
theorem me_X12_goesOn : xMe kX12_goesOn 2 := ⟨q2911, q215, by decide, by decide, by decide +kernel⟩
theorem q2910 : (Jvm.Cond.instanceMethod ({ cls := "CompiledHouse$Processor", name := "goesOn", desc := "(IZ)I" } : Jvm.MethodName)) ∈ lw_all := lw_g (lw_at lw_m12 74 rfl) rfl
theorem is_X12_goesOn : Cond.instanceMethod kX12_goesOn.y ∈ lw_all := q2910
theorem se_X12_goesOn : Cond.selects RX12 kX12_goesOn.y kX12_goesOn.y ∈ lw_all := qs113
theorem lk_X12_38 : xLk RX12 38 yX12_goesOn := Or.inl q2908
theorem q2912 : (Jvm.Cond.methodLink "CompiledHouse$Processor" (42 : Nat) ({ cls := "CompiledHouse$Processor", name := "loads", desc := "(III)I" } : Jvm.MethodName)) ∈ lw_all := lw_g (lw_at lw_m12 76 rfl) rfl
abbrev cX12_loads : ByteArray := prog_28_method_9_code
def yX12_loads : MethodName := ⟨RX12, "loads", "(III)I"⟩
theorem q2915 : (Jvm.Cond.code ({ cls := "CompiledHouse$Processor", name := "loads", desc := "(III)I" } : Jvm.MethodName) prog_28_method_9_code (6 : Nat) (Option.some Jvm.ClassFile.FieldType.int)) ∈ lw_all := lw_g (lw_at lw_m12 79 rfl) rfl
def kX12_loads : xK := (yX12_loads, cX12_loads, 6, some .int, [])
theorem me_X12_loads : xMe kX12_loads 3 := ⟨q2915, q215, by decide, by decide, by decide +kernel⟩
theorem q2914 : (Jvm.Cond.instanceMethod ({ cls := "CompiledHouse$Processor", name := "loads", desc := "(III)I" } : Jvm.MethodName)) ∈ lw_all := lw_g (lw_at lw_m12 78 rfl) rfl
theorem is_X12_loads : Cond.instanceMethod kX12_loads.y ∈ lw_all := q2914
theorem se_X12_loads : Cond.selects RX12 kX12_loads.y kX12_loads.y ∈ lw_all := qs114
theorem lk_X12_42 : xLk RX12 42 yX12_loads := Or.inl q2912
theorem q2917 : (Jvm.Cond.methodLink "CompiledHouse$Processor" (46 : Nat) ({ cls := "CompiledHouse$Processor", name := "stores", desc := "(III)I" } : Jvm.MethodName)) ∈ lw_all := lw_g (lw_at lw_m12 81 rfl) rfl
abbrev cX12_stores : ByteArray := prog_28_method_10_code
def yX12_stores : MethodName := ⟨RX12, "stores", "(III)I"⟩
theorem q2920 : (Jvm.Cond.code ({ cls := "CompiledHouse$Processor", name := "stores", desc := "(III)I" } : Jvm.MethodName) prog_28_method_10_code (6 : Nat) (Option.some Jvm.ClassFile.FieldType.int)) ∈ lw_all := lw_g (lw_at lw_m12 84 rfl) rfl
def kX12_stores : xK := (yX12_stores, cX12_stores, 6, some .int, [])
theorem me_X12_stores : xMe kX12_stores 3 := ⟨q2920, q215, by decide, by decide, by decide +kernel⟩
theorem q2919 : (Jvm.Cond.instanceMethod ({ cls := "CompiledHouse$Processor", name := "stores", desc := "(III)I" } : Jvm.MethodName)) ∈ lw_all := lw_g (lw_at lw_m12 83 rfl) rfl
theorem is_X12_stores : Cond.instanceMethod kX12_stores.y ∈ lw_all := q2919
theorem se_X12_stores : Cond.selects RX12 kX12_stores.y kX12_stores.y ∈ lw_all := qs115
theorem lk_X12_46 : xLk RX12 46 yX12_stores := Or.inl q2917
theorem q2921 : (Jvm.Cond.methodLink "CompiledHouse$Processor" (49 : Nat) ({ cls := "CompiledHouse$Processor", name := "reckons", desc := "(III)I" } : Jvm.MethodName)) ∈ lw_all := lw_g (lw_at lw_m12 85 rfl) rfl
abbrev cX12_reckons : ByteArray := prog_28_method_11_code
def yX12_reckons : MethodName := ⟨RX12, "reckons", "(III)I"⟩
theorem q2924 : (Jvm.Cond.code ({ cls := "CompiledHouse$Processor", name := "reckons", desc := "(III)I" } : Jvm.MethodName) prog_28_method_11_code (7 : Nat) (Option.some Jvm.ClassFile.FieldType.int)) ∈ lw_all := lw_g (lw_at lw_m12 88 rfl) rfl
def kX12_reckons : xK := (yX12_reckons, cX12_reckons, 7, some .int, [])
theorem me_X12_reckons : xMe kX12_reckons 3 := ⟨q2924, q215, by decide, by decide, by decide +kernel⟩
theorem q2923 : (Jvm.Cond.instanceMethod ({ cls := "CompiledHouse$Processor", name := "reckons", desc := "(III)I" } : Jvm.MethodName)) ∈ lw_all := lw_g (lw_at lw_m12 87 rfl) rfl
theorem is_X12_reckons : Cond.instanceMethod kX12_reckons.y ∈ lw_all := q2923
theorem se_X12_reckons : Cond.selects RX12 kX12_reckons.y kX12_reckons.y ∈ lw_all := qs116
theorem lk_X12_49 : xLk RX12 49 yX12_reckons := Or.inl q2921
theorem q2928 : (Jvm.Cond.methodLink "CompiledHouse$Processor" (52 : Nat) ({ cls := "CompiledHouse$Processor", name := "reckons", desc := "(IIII)I" } : Jvm.MethodName)) ∈ lw_all := lw_g (lw_at lw_m12 92 rfl) rfl
abbrev cX12_reckons_2 : ByteArray := prog_28_method_13_code
def yX12_reckons_2 : MethodName := ⟨RX12, "reckons", "(IIII)I"⟩
theorem q2931 : (Jvm.Cond.code ({ cls := "CompiledHouse$Processor", name := "reckons", desc := "(IIII)I" } : Jvm.MethodName) prog_28_method_13_code (5 : Nat) (Option.some Jvm.ClassFile.FieldType.int)) ∈ lw_all := lw_g (lw_at lw_m12 95 rfl) rfl
def kX12_reckons_2 : xK := (yX12_reckons_2, cX12_reckons_2, 5, some .int, [])
theorem me_X12_reckons_2 : xMe kX12_reckons_2 4 := ⟨q2931, q215, by decide, by decide, by decide +kernel⟩
theorem q2930 : (Jvm.Cond.instanceMethod ({ cls := "CompiledHouse$Processor", name := "reckons", desc := "(IIII)I" } : Jvm.MethodName)) ∈ lw_all := lw_g (lw_at lw_m12 94 rfl) rfl
theorem is_X12_reckons_2 : Cond.instanceMethod kX12_reckons_2.y ∈ lw_all := q2930
theorem se_X12_reckons_2 : Cond.selects RX12 kX12_reckons_2.y kX12_reckons_2.y ∈ lw_all := qs117
theorem lk_X12_52 : xLk RX12 52 yX12_reckons_2 := Or.inl q2928
theorem q2895 : (Jvm.Cond.methodLink "CompiledHouse$Processor" (55 : Nat) ({ cls := "CompiledHouse$Processor", name := "next", desc := "()I" } : Jvm.MethodName)) ∈ lw_all := lw_g (lw_at lw_m12 59 rfl) rfl
abbrev cX12_next : ByteArray := prog_28_method_4_code
def yX12_next : MethodName := ⟨RX12, "next", "()I"⟩
theorem q2898 : (Jvm.Cond.code ({ cls := "CompiledHouse$Processor", name := "next", desc := "()I" } : Jvm.MethodName) prog_28_method_4_code (1 : Nat) (Option.some Jvm.ClassFile.FieldType.int)) ∈ lw_all := lw_g (lw_at lw_m12 62 rfl) rfl
def kX12_next : xK := (yX12_next, cX12_next, 1, some .int, [])
theorem me_X12_next : xMe kX12_next 0 := ⟨q2898, q215, by decide, by decide, by decide +kernel⟩
theorem q2897 : (Jvm.Cond.instanceMethod ({ cls := "CompiledHouse$Processor", name := "next", desc := "()I" } : Jvm.MethodName)) ∈ lw_all := lw_g (lw_at lw_m12 61 rfl) rfl
theorem is_X12_next : Cond.instanceMethod kX12_next.y ∈ lw_all := q2897
theorem se_X12_next : Cond.selects RX12 kX12_next.y kX12_next.y ∈ lw_all := qs111
theorem lk_X12_55 : xLk RX12 55 yX12_next := Or.inl q2895
theorem q2937 : (Jvm.Cond.constant "CompiledHouse$Processor" (58 : Nat) (1048691 : Int32)) ∈ lw_all := lw_g (lw_at lw_m12 101 rfl) rfl
theorem q852 : (Jvm.Cond.fieldLink "CompiledHouse$Processor" (59 : Nat) "CompiledHouse$Processor" "done" "I") ∈ lw_all := lw_g (lw_at lw_m3 176 rfl) rfl
theorem f_X12_59_11 : xF RX12 59 11 3 := ⟨_, "CompiledHouse$Processor", rfl, by decide, Or.inl q852, Or.inl rfl⟩
theorem q2907 : (Jvm.Cond.constant "CompiledHouse$Processor" (64 : Nat) (-2147483648 : Int32)) ∈ lw_all := lw_g (lw_at lw_m12 71 rfl) rfl
theorem q2916 : (Jvm.Cond.constant "CompiledHouse$Processor" (65 : Nat) (65535 : Int32)) ∈ lw_all := lw_g (lw_at lw_m12 80 rfl) rfl
theorem q2925 : (Jvm.Cond.methodLink "CompiledHouse$Processor" (66 : Nat) ({ cls := "CompiledHouse$Processor", name := "plain", desc := "(III)I" } : Jvm.MethodName)) ∈ lw_all := lw_g (lw_at lw_m12 89 rfl) rfl
abbrev cX12_plain : ByteArray := prog_28_method_12_code
def yX12_plain : MethodName := ⟨RX12, "plain", "(III)I"⟩
theorem q2927 : (Jvm.Cond.code ({ cls := "CompiledHouse$Processor", name := "plain", desc := "(III)I" } : Jvm.MethodName) prog_28_method_12_code (3 : Nat) (Option.some Jvm.ClassFile.FieldType.int)) ∈ lw_all := lw_g (lw_at lw_m12 91 rfl) rfl
def kX12_plain : xK := (yX12_plain, cX12_plain, 3, some .int, [])
theorem me_X12_plain : xMe kX12_plain 3 := ⟨q2927, q215, by decide, by decide, by decide +kernel⟩
theorem q2926 : (Jvm.Cond.static ({ cls := "CompiledHouse$Processor", name := "plain", desc := "(III)I" } : Jvm.MethodName)) ∈ lw_all := lw_g (lw_at lw_m12 90 rfl) rfl
theorem st_X12_plain : Cond.static kX12_plain.y ∈ lw_all := q2926
theorem lk_X12_66 : xLk RX12 66 yX12_plain := Or.inl q2925
theorem q2932 : (Jvm.Cond.methodLink "CompiledHouse$Processor" (69 : Nat) ({ cls := "CompiledHouse$Processor", name := "product", desc := "(III)I" } : Jvm.MethodName)) ∈ lw_all := lw_g (lw_at lw_m12 96 rfl) rfl
abbrev cX12_product : ByteArray := prog_28_method_14_code
def yX12_product : MethodName := ⟨RX12, "product", "(III)I"⟩
theorem q2934 : (Jvm.Cond.code ({ cls := "CompiledHouse$Processor", name := "product", desc := "(III)I" } : Jvm.MethodName) prog_28_method_14_code (7 : Nat) (Option.some Jvm.ClassFile.FieldType.int)) ∈ lw_all := lw_g (lw_at lw_m12 98 rfl) rfl
def kX12_product : xK := (yX12_product, cX12_product, 7, some .int, [])
theorem me_X12_product : xMe kX12_product 3 := ⟨q2934, q215, by decide, by decide, by decide +kernel⟩
theorem q2933 : (Jvm.Cond.static ({ cls := "CompiledHouse$Processor", name := "product", desc := "(III)I" } : Jvm.MethodName)) ∈ lw_all := lw_g (lw_at lw_m12 97 rfl) rfl
theorem st_X12_product : Cond.static kX12_product.y ∈ lw_all := q2933
theorem lk_X12_69 : xLk RX12 69 yX12_product := Or.inl q2932
theorem q2935 : (Jvm.Cond.constantLong "CompiledHouse$Processor" (72 : Nat) (4294967295 : Int64)) ∈ lw_all := lw_g (lw_at lw_m12 99 rfl) rfl
theorem q2936 : (Jvm.Cond.methodLinkNest "CompiledHouse$Processor" (74 : Nat) ({ cls := "CompiledHouse", name := "done", desc := "(III)I" } : Jvm.MethodName) "CompiledHouse") ∈ lw_tbl := lw_at lw_m12 100 rfl
abbrev cX0_done : ByteArray := prog_1_method_3_code
def yX0_done : MethodName := ⟨RX0, "done", "(III)I"⟩
theorem q2115 : (Jvm.Cond.code ({ cls := "CompiledHouse", name := "done", desc := "(III)I" } : Jvm.MethodName) prog_1_method_3_code (3 : Nat) (Option.some Jvm.ClassFile.FieldType.int)) ∈ lw_all := lw_g (lw_at lw_m8 239 rfl) rfl
def kX0_done : xK := (yX0_done, cX0_done, 3, some .int, [])
theorem me_X0_done : xMe kX0_done 3 := ⟨q2115, q197, by decide, by decide, by decide +kernel⟩
theorem q2114 : (Jvm.Cond.static ({ cls := "CompiledHouse", name := "done", desc := "(III)I" } : Jvm.MethodName)) ∈ lw_all := lw_g (lw_at lw_m8 238 rfl) rfl
theorem st_X0_done : Cond.static kX0_done.y ∈ lw_all := q2114
theorem lk_X12_74 : xLk RX12 74 yX0_done := Or.inr ⟨_, q2936⟩
theorem dX12_init_0 : decode cX12_init 0 = .ok (.aload_n 0, 1) := by decide +kernel
theorem dX12_init_1 : decode cX12_init 1 = .ok (.invokespecial 3, 3) := by decide +kernel
theorem dX12_init_4 : decode cX12_init 4 = .ok (.aload_n 0, 1) := by decide +kernel
theorem dX12_init_5 : decode cX12_init 5 = .ok (.bipush 32, 2) := by decide +kernel
theorem dX12_init_7 : decode cX12_init 7 = .ok (.newarray .int, 2) := by decide +kernel
theorem dX12_init_9 : decode cX12_init 9 = .ok (.putfield 9, 3) := by decide +kernel
theorem dX12_init_12 : decode cX12_init 12 = .ok (.return_, 1) := by decide +kernel
theorem dX12_go_0 : decode cX12_go 0 = .ok (.iconst 0, 1) := by decide +kernel
theorem dX12_go_1 : decode cX12_go 1 = .ok (.istore_n 2, 1) := by decide +kernel
theorem dX12_go_2 : decode cX12_go 2 = .ok (.iconst 0, 1) := by decide +kernel
theorem dX12_go_3 : decode cX12_go 3 = .ok (.istore_n 3, 1) := by decide +kernel
theorem dX12_go_4 : decode cX12_go 4 = .ok (.iload_n 3, 1) := by decide +kernel
theorem dX12_go_5 : decode cX12_go 5 = .ok (.iload_n 1, 1) := by decide +kernel
theorem dX12_go_6 : decode cX12_go 6 = .ok (.if_icmp .ge 18, 3) := by decide +kernel
theorem dX12_go_9 : decode cX12_go 9 = .ok (.iload_n 2, 1) := by decide +kernel
theorem dX12_go_10 : decode cX12_go 10 = .ok (.ifCond .ne 14, 3) := by decide +kernel
theorem dX12_go_13 : decode cX12_go 13 = .ok (.aload_n 0, 1) := by decide +kernel
theorem dX12_go_14 : decode cX12_go 14 = .ok (.invokevirtual 15, 3) := by decide +kernel
theorem dX12_go_17 : decode cX12_go 17 = .ok (.istore_n 2, 1) := by decide +kernel
theorem dX12_go_18 : decode cX12_go 18 = .ok (.iinc 3 1, 3) := by decide +kernel
theorem dX12_go_21 : decode cX12_go 21 = .ok (.goto (-17), 3) := by decide +kernel
theorem dX12_go_24 : decode cX12_go 24 = .ok (.iload_n 2, 1) := by decide +kernel
theorem dX12_go_25 : decode cX12_go 25 = .ok (.ireturn, 1) := by decide +kernel
theorem dX12_step_0 : decode cX12_step 0 = .ok (.aload_n 0, 1) := by decide +kernel
theorem dX12_step_1 : decode cX12_step 1 = .ok (.getfield 19, 3) := by decide +kernel
theorem dX12_step_4 : decode cX12_step 4 = .ok (.iconst 3, 1) := by decide +kernel
theorem dX12_step_5 : decode cX12_step 5 = .ok (.iand, 1) := by decide +kernel
theorem dX12_step_6 : decode cX12_step 6 = .ok (.ifCond .ne 17, 3) := by decide +kernel
theorem dX12_step_9 : decode cX12_step 9 = .ok (.aload_n 0, 1) := by decide +kernel
theorem dX12_step_10 : decode cX12_step 10 = .ok (.getfield 19, 3) := by decide +kernel
theorem dX12_step_13 : decode cX12_step 13 = .ok (.iconst 2, 1) := by decide +kernel
theorem dX12_step_14 : decode cX12_step 14 = .ok (.iushr, 1) := by decide +kernel
theorem dX12_step_15 : decode cX12_step 15 = .ok (.aload_n 0, 1) := by decide +kernel
theorem dX12_step_16 : decode cX12_step 16 = .ok (.getfield 23, 3) := by decide +kernel
theorem dX12_step_19 : decode cX12_step 19 = .ok (.arraylength, 1) := by decide +kernel
theorem dX12_step_20 : decode cX12_step 20 = .ok (.if_icmp .lt 5, 3) := by decide +kernel
theorem dX12_step_23 : decode cX12_step 23 = .ok (.iconst 1, 1) := by decide +kernel
theorem dX12_step_24 : decode cX12_step 24 = .ok (.ireturn, 1) := by decide +kernel
theorem dX12_step_25 : decode cX12_step 25 = .ok (.aload_n 0, 1) := by decide +kernel
theorem dX12_step_26 : decode cX12_step 26 = .ok (.getfield 23, 3) := by decide +kernel
theorem dX12_step_29 : decode cX12_step 29 = .ok (.aload_n 0, 1) := by decide +kernel
theorem dX12_step_30 : decode cX12_step 30 = .ok (.getfield 19, 3) := by decide +kernel
theorem dX12_step_33 : decode cX12_step 33 = .ok (.iconst 2, 1) := by decide +kernel
theorem dX12_step_34 : decode cX12_step 34 = .ok (.iushr, 1) := by decide +kernel
theorem dX12_step_35 : decode cX12_step 35 = .ok (.iaload, 1) := by decide +kernel
theorem dX12_step_36 : decode cX12_step 36 = .ok (.istore_n 1, 1) := by decide +kernel
theorem dX12_step_37 : decode cX12_step 37 = .ok (.iload_n 1, 1) := by decide +kernel
theorem dX12_step_38 : decode cX12_step 38 = .ok (.bipush 12, 2) := by decide +kernel
theorem dX12_step_40 : decode cX12_step 40 = .ok (.ishr, 1) := by decide +kernel
theorem dX12_step_41 : decode cX12_step 41 = .ok (.bipush 7, 2) := by decide +kernel
theorem dX12_step_43 : decode cX12_step 43 = .ok (.iand, 1) := by decide +kernel
theorem dX12_step_44 : decode cX12_step 44 = .ok (.istore_n 2, 1) := by decide +kernel
theorem dX12_step_45 : decode cX12_step 45 = .ok (.aload_n 0, 1) := by decide +kernel
theorem dX12_step_46 : decode cX12_step 46 = .ok (.getfield 9, 3) := by decide +kernel
theorem dX12_step_49 : decode cX12_step 49 = .ok (.iload_n 1, 1) := by decide +kernel
theorem dX12_step_50 : decode cX12_step 50 = .ok (.bipush 15, 2) := by decide +kernel
theorem dX12_step_52 : decode cX12_step 52 = .ok (.ishr, 1) := by decide +kernel
theorem dX12_step_53 : decode cX12_step 53 = .ok (.bipush 31, 2) := by decide +kernel
theorem dX12_step_55 : decode cX12_step 55 = .ok (.iand, 1) := by decide +kernel
theorem dX12_step_56 : decode cX12_step 56 = .ok (.iaload, 1) := by decide +kernel
theorem dX12_step_57 : decode cX12_step 57 = .ok (.istore_n 3, 1) := by decide +kernel
theorem dX12_step_58 : decode cX12_step 58 = .ok (.aload_n 0, 1) := by decide +kernel
theorem dX12_step_59 : decode cX12_step 59 = .ok (.getfield 9, 3) := by decide +kernel
theorem dX12_step_62 : decode cX12_step 62 = .ok (.iload_n 1, 1) := by decide +kernel
theorem dX12_step_63 : decode cX12_step 63 = .ok (.bipush 20, 2) := by decide +kernel
theorem dX12_step_65 : decode cX12_step 65 = .ok (.ishr, 1) := by decide +kernel
theorem dX12_step_66 : decode cX12_step 66 = .ok (.bipush 31, 2) := by decide +kernel
theorem dX12_step_68 : decode cX12_step 68 = .ok (.iand, 1) := by decide +kernel
theorem dX12_step_69 : decode cX12_step 69 = .ok (.iaload, 1) := by decide +kernel
theorem dX12_step_70 : decode cX12_step 70 = .ok (.istore 4, 2) := by decide +kernel
theorem dX12_step_72 : decode cX12_step 72 = .ok (.iload_n 1, 1) := by decide +kernel
theorem dX12_step_73 : decode cX12_step 73 = .ok (.bipush 127, 2) := by decide +kernel
theorem dX12_step_75 : decode cX12_step 75 = .ok (.iand, 1) := by decide +kernel
theorem dX12_step_76 : decode cX12_step 76 = .ok (.lookupswitch 322 #[(3, 221), (15, 276), (19, 258), (23, 111), (35, 234), (51, 266), (55, 100), (99, 194), (103, 171), (111, 127), (115, 289)], 100) := by decide +kernel
theorem dX12_step_176 : decode cX12_step 176 = .ok (.aload_n 0, 1) := by decide +kernel
theorem dX12_step_177 : decode cX12_step 177 = .ok (.iload_n 1, 1) := by decide +kernel
theorem dX12_step_178 : decode cX12_step 178 = .ok (.iload_n 1, 1) := by decide +kernel
theorem dX12_step_179 : decode cX12_step 179 = .ok (.sipush (-4096), 3) := by decide +kernel
theorem dX12_step_182 : decode cX12_step 182 = .ok (.iand, 1) := by decide +kernel
theorem dX12_step_183 : decode cX12_step 183 = .ok (.invokevirtual 26, 3) := by decide +kernel
theorem dX12_step_186 : decode cX12_step 186 = .ok (.ireturn, 1) := by decide +kernel
theorem dX12_step_187 : decode cX12_step 187 = .ok (.aload_n 0, 1) := by decide +kernel
theorem dX12_step_188 : decode cX12_step 188 = .ok (.iload_n 1, 1) := by decide +kernel
theorem dX12_step_189 : decode cX12_step 189 = .ok (.aload_n 0, 1) := by decide +kernel
theorem dX12_step_190 : decode cX12_step 190 = .ok (.getfield 19, 3) := by decide +kernel
theorem dX12_step_193 : decode cX12_step 193 = .ok (.iload_n 1, 1) := by decide +kernel
theorem dX12_step_194 : decode cX12_step 194 = .ok (.sipush (-4096), 3) := by decide +kernel
theorem dX12_step_197 : decode cX12_step 197 = .ok (.iand, 1) := by decide +kernel
theorem dX12_step_198 : decode cX12_step 198 = .ok (.iadd, 1) := by decide +kernel
theorem dX12_step_199 : decode cX12_step 199 = .ok (.invokevirtual 26, 3) := by decide +kernel
theorem dX12_step_202 : decode cX12_step 202 = .ok (.ireturn, 1) := by decide +kernel
theorem dX12_step_203 : decode cX12_step 203 = .ok (.aload_n 0, 1) := by decide +kernel
theorem dX12_step_204 : decode cX12_step 204 = .ok (.iload_n 1, 1) := by decide +kernel
theorem dX12_step_205 : decode cX12_step 205 = .ok (.aload_n 0, 1) := by decide +kernel
theorem dX12_step_206 : decode cX12_step 206 = .ok (.getfield 19, 3) := by decide +kernel
theorem dX12_step_209 : decode cX12_step 209 = .ok (.iload_n 1, 1) := by decide +kernel
theorem dX12_step_210 : decode cX12_step 210 = .ok (.bipush 31, 2) := by decide +kernel
theorem dX12_step_212 : decode cX12_step 212 = .ok (.ishr, 1) := by decide +kernel
theorem dX12_step_213 : decode cX12_step 213 = .ok (.bipush 20, 2) := by decide +kernel
theorem dX12_step_215 : decode cX12_step 215 = .ok (.ishl, 1) := by decide +kernel
theorem dX12_step_216 : decode cX12_step 216 = .ok (.iload_n 1, 1) := by decide +kernel
theorem dX12_step_217 : decode cX12_step 217 = .ok (.ldc 30, 2) := by decide +kernel
theorem dX12_step_219 : decode cX12_step 219 = .ok (.iand, 1) := by decide +kernel
theorem dX12_step_220 : decode cX12_step 220 = .ok (.ior, 1) := by decide +kernel
theorem dX12_step_221 : decode cX12_step 221 = .ok (.iload_n 1, 1) := by decide +kernel
theorem dX12_step_222 : decode cX12_step 222 = .ok (.bipush 20, 2) := by decide +kernel
theorem dX12_step_224 : decode cX12_step 224 = .ok (.ishr, 1) := by decide +kernel
theorem dX12_step_225 : decode cX12_step 225 = .ok (.iconst 1, 1) := by decide +kernel
theorem dX12_step_226 : decode cX12_step 226 = .ok (.iand, 1) := by decide +kernel
theorem dX12_step_227 : decode cX12_step 227 = .ok (.bipush 11, 2) := by decide +kernel
theorem dX12_step_229 : decode cX12_step 229 = .ok (.ishl, 1) := by decide +kernel
theorem dX12_step_230 : decode cX12_step 230 = .ok (.ior, 1) := by decide +kernel
theorem dX12_step_231 : decode cX12_step 231 = .ok (.iload_n 1, 1) := by decide +kernel
theorem dX12_step_232 : decode cX12_step 232 = .ok (.bipush 21, 2) := by decide +kernel
theorem dX12_step_234 : decode cX12_step 234 = .ok (.ishr, 1) := by decide +kernel
theorem dX12_step_235 : decode cX12_step 235 = .ok (.sipush 1023, 3) := by decide +kernel
theorem dX12_step_238 : decode cX12_step 238 = .ok (.iand, 1) := by decide +kernel
theorem dX12_step_239 : decode cX12_step 239 = .ok (.iconst 1, 1) := by decide +kernel
theorem dX12_step_240 : decode cX12_step 240 = .ok (.ishl, 1) := by decide +kernel
theorem dX12_step_241 : decode cX12_step 241 = .ok (.ior, 1) := by decide +kernel
theorem dX12_step_242 : decode cX12_step 242 = .ok (.iadd, 1) := by decide +kernel
theorem dX12_step_243 : decode cX12_step 243 = .ok (.invokevirtual 31, 3) := by decide +kernel
theorem dX12_step_246 : decode cX12_step 246 = .ok (.ireturn, 1) := by decide +kernel
theorem dX12_step_247 : decode cX12_step 247 = .ok (.iload_n 2, 1) := by decide +kernel
theorem dX12_step_248 : decode cX12_step 248 = .ok (.ifCond .eq 7, 3) := by decide +kernel
theorem dX12_step_251 : decode cX12_step 251 = .ok (.iconst 2, 1) := by decide +kernel
theorem dX12_step_252 : decode cX12_step 252 = .ok (.goto 17, 3) := by decide +kernel
theorem dX12_step_255 : decode cX12_step 255 = .ok (.aload_n 0, 1) := by decide +kernel
theorem dX12_step_256 : decode cX12_step 256 = .ok (.iload_n 1, 1) := by decide +kernel
theorem dX12_step_257 : decode cX12_step 257 = .ok (.iload_n 3, 1) := by decide +kernel
theorem dX12_step_258 : decode cX12_step 258 = .ok (.iload_n 1, 1) := by decide +kernel
theorem dX12_step_259 : decode cX12_step 259 = .ok (.bipush 20, 2) := by decide +kernel
theorem dX12_step_261 : decode cX12_step 261 = .ok (.ishr, 1) := by decide +kernel
theorem dX12_step_262 : decode cX12_step 262 = .ok (.iadd, 1) := by decide +kernel
theorem dX12_step_263 : decode cX12_step 263 = .ok (.bipush (-2), 2) := by decide +kernel
theorem dX12_step_265 : decode cX12_step 265 = .ok (.iand, 1) := by decide +kernel
theorem dX12_step_266 : decode cX12_step 266 = .ok (.invokevirtual 31, 3) := by decide +kernel
theorem dX12_step_269 : decode cX12_step 269 = .ok (.ireturn, 1) := by decide +kernel
theorem dX12_step_270 : decode cX12_step 270 = .ok (.iload_n 2, 1) := by decide +kernel
theorem dX12_step_271 : decode cX12_step 271 = .ok (.iconst 2, 1) := by decide +kernel
theorem dX12_step_272 : decode cX12_step 272 = .ok (.if_icmp .eq 8, 3) := by decide +kernel
theorem dX12_step_275 : decode cX12_step 275 = .ok (.iload_n 2, 1) := by decide +kernel
theorem dX12_step_276 : decode cX12_step 276 = .ok (.iconst 3, 1) := by decide +kernel
theorem dX12_step_277 : decode cX12_step 277 = .ok (.if_icmp .ne 7, 3) := by decide +kernel
theorem dX12_step_280 : decode cX12_step 280 = .ok (.iconst 2, 1) := by decide +kernel
theorem dX12_step_281 : decode cX12_step 281 = .ok (.goto 15, 3) := by decide +kernel
theorem dX12_step_284 : decode cX12_step 284 = .ok (.aload_n 0, 1) := by decide +kernel
theorem dX12_step_285 : decode cX12_step 285 = .ok (.iload_n 1, 1) := by decide +kernel
theorem dX12_step_286 : decode cX12_step 286 = .ok (.iload_n 2, 1) := by decide +kernel
theorem dX12_step_287 : decode cX12_step 287 = .ok (.iload_n 3, 1) := by decide +kernel
theorem dX12_step_288 : decode cX12_step 288 = .ok (.iload 4, 2) := by decide +kernel
theorem dX12_step_290 : decode cX12_step 290 = .ok (.invokestatic 34, 3) := by decide +kernel
theorem dX12_step_293 : decode cX12_step 293 = .ok (.invokevirtual 38, 3) := by decide +kernel
theorem dX12_step_296 : decode cX12_step 296 = .ok (.ireturn, 1) := by decide +kernel
theorem dX12_step_297 : decode cX12_step 297 = .ok (.aload_n 0, 1) := by decide +kernel
theorem dX12_step_298 : decode cX12_step 298 = .ok (.iload_n 1, 1) := by decide +kernel
theorem dX12_step_299 : decode cX12_step 299 = .ok (.iload_n 2, 1) := by decide +kernel
theorem dX12_step_300 : decode cX12_step 300 = .ok (.iload_n 3, 1) := by decide +kernel
theorem dX12_step_301 : decode cX12_step 301 = .ok (.iload_n 1, 1) := by decide +kernel
theorem dX12_step_302 : decode cX12_step 302 = .ok (.bipush 20, 2) := by decide +kernel
theorem dX12_step_304 : decode cX12_step 304 = .ok (.ishr, 1) := by decide +kernel
theorem dX12_step_305 : decode cX12_step 305 = .ok (.iadd, 1) := by decide +kernel
theorem dX12_step_306 : decode cX12_step 306 = .ok (.invokevirtual 42, 3) := by decide +kernel
theorem dX12_step_309 : decode cX12_step 309 = .ok (.ireturn, 1) := by decide +kernel
theorem dX12_step_310 : decode cX12_step 310 = .ok (.aload_n 0, 1) := by decide +kernel
theorem dX12_step_311 : decode cX12_step 311 = .ok (.iload_n 2, 1) := by decide +kernel
theorem dX12_step_312 : decode cX12_step 312 = .ok (.iload_n 3, 1) := by decide +kernel
theorem dX12_step_313 : decode cX12_step 313 = .ok (.iload_n 1, 1) := by decide +kernel
theorem dX12_step_314 : decode cX12_step 314 = .ok (.bipush 25, 2) := by decide +kernel
theorem dX12_step_316 : decode cX12_step 316 = .ok (.ishr, 1) := by decide +kernel
theorem dX12_step_317 : decode cX12_step 317 = .ok (.iconst 5, 1) := by decide +kernel
theorem dX12_step_318 : decode cX12_step 318 = .ok (.ishl, 1) := by decide +kernel
theorem dX12_step_319 : decode cX12_step 319 = .ok (.iload_n 1, 1) := by decide +kernel
theorem dX12_step_320 : decode cX12_step 320 = .ok (.bipush 7, 2) := by decide +kernel
theorem dX12_step_322 : decode cX12_step 322 = .ok (.ishr, 1) := by decide +kernel
theorem dX12_step_323 : decode cX12_step 323 = .ok (.bipush 31, 2) := by decide +kernel
theorem dX12_step_325 : decode cX12_step 325 = .ok (.iand, 1) := by decide +kernel
theorem dX12_step_326 : decode cX12_step 326 = .ok (.ior, 1) := by decide +kernel
theorem dX12_step_327 : decode cX12_step 327 = .ok (.iadd, 1) := by decide +kernel
theorem dX12_step_328 : decode cX12_step 328 = .ok (.iload 4, 2) := by decide +kernel
theorem dX12_step_330 : decode cX12_step 330 = .ok (.invokevirtual 46, 3) := by decide +kernel
theorem dX12_step_333 : decode cX12_step 333 = .ok (.ireturn, 1) := by decide +kernel
theorem dX12_step_334 : decode cX12_step 334 = .ok (.aload_n 0, 1) := by decide +kernel
theorem dX12_step_335 : decode cX12_step 335 = .ok (.iload_n 1, 1) := by decide +kernel
theorem dX12_step_336 : decode cX12_step 336 = .ok (.iload_n 2, 1) := by decide +kernel
theorem dX12_step_337 : decode cX12_step 337 = .ok (.iload_n 3, 1) := by decide +kernel
theorem dX12_step_338 : decode cX12_step 338 = .ok (.invokevirtual 49, 3) := by decide +kernel
theorem dX12_step_341 : decode cX12_step 341 = .ok (.ireturn, 1) := by decide +kernel
theorem dX12_step_342 : decode cX12_step 342 = .ok (.aload_n 0, 1) := by decide +kernel
theorem dX12_step_343 : decode cX12_step 343 = .ok (.iload_n 1, 1) := by decide +kernel
theorem dX12_step_344 : decode cX12_step 344 = .ok (.iload_n 2, 1) := by decide +kernel
theorem dX12_step_345 : decode cX12_step 345 = .ok (.iload_n 3, 1) := by decide +kernel
theorem dX12_step_346 : decode cX12_step 346 = .ok (.iload 4, 2) := by decide +kernel
theorem dX12_step_348 : decode cX12_step 348 = .ok (.invokevirtual 52, 3) := by decide +kernel
theorem dX12_step_351 : decode cX12_step 351 = .ok (.ireturn, 1) := by decide +kernel
theorem dX12_step_352 : decode cX12_step 352 = .ok (.iload_n 2, 1) := by decide +kernel
theorem dX12_step_353 : decode cX12_step 353 = .ok (.ifCond .ne 10, 3) := by decide +kernel
theorem dX12_step_356 : decode cX12_step 356 = .ok (.aload_n 0, 1) := by decide +kernel
theorem dX12_step_357 : decode cX12_step 357 = .ok (.invokevirtual 55, 3) := by decide +kernel
theorem dX12_step_360 : decode cX12_step 360 = .ok (.goto 4, 3) := by decide +kernel
theorem dX12_step_363 : decode cX12_step 363 = .ok (.iconst 2, 1) := by decide +kernel
theorem dX12_step_364 : decode cX12_step 364 = .ok (.ireturn, 1) := by decide +kernel
theorem dX12_step_365 : decode cX12_step 365 = .ok (.iload_n 1, 1) := by decide +kernel
theorem dX12_step_366 : decode cX12_step 366 = .ok (.bipush 115, 2) := by decide +kernel
theorem dX12_step_368 : decode cX12_step 368 = .ok (.if_icmp .eq 11, 3) := by decide +kernel
theorem dX12_step_371 : decode cX12_step 371 = .ok (.iload_n 1, 1) := by decide +kernel
theorem dX12_step_372 : decode cX12_step 372 = .ok (.ldc 58, 2) := by decide +kernel
theorem dX12_step_374 : decode cX12_step 374 = .ok (.if_icmp .eq 5, 3) := by decide +kernel
theorem dX12_step_377 : decode cX12_step 377 = .ok (.iconst 2, 1) := by decide +kernel
theorem dX12_step_378 : decode cX12_step 378 = .ok (.ireturn, 1) := by decide +kernel
theorem dX12_step_379 : decode cX12_step 379 = .ok (.aload_n 0, 1) := by decide +kernel
theorem dX12_step_380 : decode cX12_step 380 = .ok (.invokevirtual 55, 3) := by decide +kernel
theorem dX12_step_383 : decode cX12_step 383 = .ok (.iload_n 1, 1) := by decide +kernel
theorem dX12_step_384 : decode cX12_step 384 = .ok (.bipush 115, 2) := by decide +kernel
theorem dX12_step_386 : decode cX12_step 386 = .ok (.if_icmp .ne 8, 3) := by decide +kernel
theorem dX12_step_389 : decode cX12_step 389 = .ok (.bipush 6, 2) := by decide +kernel
theorem dX12_step_391 : decode cX12_step 391 = .ok (.goto 5, 3) := by decide +kernel
theorem dX12_step_394 : decode cX12_step 394 = .ok (.bipush 7, 2) := by decide +kernel
theorem dX12_step_396 : decode cX12_step 396 = .ok (.iadd, 1) := by decide +kernel
theorem dX12_step_397 : decode cX12_step 397 = .ok (.ireturn, 1) := by decide +kernel
theorem dX12_step_398 : decode cX12_step 398 = .ok (.iconst 2, 1) := by decide +kernel
theorem dX12_step_399 : decode cX12_step 399 = .ok (.ireturn, 1) := by decide +kernel
theorem dX12_makes_0 : decode cX12_makes 0 = .ok (.iload_n 1, 1) := by decide +kernel
theorem dX12_makes_1 : decode cX12_makes 1 = .ok (.bipush 7, 2) := by decide +kernel
theorem dX12_makes_3 : decode cX12_makes 3 = .ok (.ishr, 1) := by decide +kernel
theorem dX12_makes_4 : decode cX12_makes 4 = .ok (.bipush 31, 2) := by decide +kernel
theorem dX12_makes_6 : decode cX12_makes 6 = .ok (.iand, 1) := by decide +kernel
theorem dX12_makes_7 : decode cX12_makes 7 = .ok (.istore_n 3, 1) := by decide +kernel
theorem dX12_makes_8 : decode cX12_makes 8 = .ok (.iload_n 3, 1) := by decide +kernel
theorem dX12_makes_9 : decode cX12_makes 9 = .ok (.ifCond .le 10, 3) := by decide +kernel
theorem dX12_makes_12 : decode cX12_makes 12 = .ok (.aload_n 0, 1) := by decide +kernel
theorem dX12_makes_13 : decode cX12_makes 13 = .ok (.getfield 9, 3) := by decide +kernel
theorem dX12_makes_16 : decode cX12_makes 16 = .ok (.iload_n 3, 1) := by decide +kernel
theorem dX12_makes_17 : decode cX12_makes 17 = .ok (.iload_n 2, 1) := by decide +kernel
theorem dX12_makes_18 : decode cX12_makes 18 = .ok (.iastore, 1) := by decide +kernel
theorem dX12_makes_19 : decode cX12_makes 19 = .ok (.aload_n 0, 1) := by decide +kernel
theorem dX12_makes_20 : decode cX12_makes 20 = .ok (.invokevirtual 55, 3) := by decide +kernel
theorem dX12_makes_23 : decode cX12_makes 23 = .ok (.ireturn, 1) := by decide +kernel
theorem dX12_next_0 : decode cX12_next 0 = .ok (.aload_n 0, 1) := by decide +kernel
theorem dX12_next_1 : decode cX12_next 1 = .ok (.dup, 1) := by decide +kernel
theorem dX12_next_2 : decode cX12_next 2 = .ok (.getfield 19, 3) := by decide +kernel
theorem dX12_next_5 : decode cX12_next 5 = .ok (.iconst 4, 1) := by decide +kernel
theorem dX12_next_6 : decode cX12_next 6 = .ok (.iadd, 1) := by decide +kernel
theorem dX12_next_7 : decode cX12_next 7 = .ok (.putfield 19, 3) := by decide +kernel
theorem dX12_next_10 : decode cX12_next 10 = .ok (.aload_n 0, 1) := by decide +kernel
theorem dX12_next_11 : decode cX12_next 11 = .ok (.dup, 1) := by decide +kernel
theorem dX12_next_12 : decode cX12_next 12 = .ok (.getfield 59, 3) := by decide +kernel
theorem dX12_next_15 : decode cX12_next 15 = .ok (.iconst 1, 1) := by decide +kernel
theorem dX12_next_16 : decode cX12_next 16 = .ok (.iadd, 1) := by decide +kernel
theorem dX12_next_17 : decode cX12_next 17 = .ok (.putfield 59, 3) := by decide +kernel
theorem dX12_next_20 : decode cX12_next 20 = .ok (.iconst 0, 1) := by decide +kernel
theorem dX12_next_21 : decode cX12_next 21 = .ok (.ireturn, 1) := by decide +kernel
theorem dX12_jumps_0 : decode cX12_jumps 0 = .ok (.iload_n 2, 1) := by decide +kernel
theorem dX12_jumps_1 : decode cX12_jumps 1 = .ok (.iconst 3, 1) := by decide +kernel
theorem dX12_jumps_2 : decode cX12_jumps 2 = .ok (.iand, 1) := by decide +kernel
theorem dX12_jumps_3 : decode cX12_jumps 3 = .ok (.ifCond .eq 5, 3) := by decide +kernel
theorem dX12_jumps_6 : decode cX12_jumps 6 = .ok (.iconst 3, 1) := by decide +kernel
theorem dX12_jumps_7 : decode cX12_jumps 7 = .ok (.ireturn, 1) := by decide +kernel
theorem dX12_jumps_8 : decode cX12_jumps 8 = .ok (.aload_n 0, 1) := by decide +kernel
theorem dX12_jumps_9 : decode cX12_jumps 9 = .ok (.iload_n 1, 1) := by decide +kernel
theorem dX12_jumps_10 : decode cX12_jumps 10 = .ok (.aload_n 0, 1) := by decide +kernel
theorem dX12_jumps_11 : decode cX12_jumps 11 = .ok (.getfield 19, 3) := by decide +kernel
theorem dX12_jumps_14 : decode cX12_jumps 14 = .ok (.iconst 4, 1) := by decide +kernel
theorem dX12_jumps_15 : decode cX12_jumps 15 = .ok (.iadd, 1) := by decide +kernel
theorem dX12_jumps_16 : decode cX12_jumps 16 = .ok (.invokevirtual 26, 3) := by decide +kernel
theorem dX12_jumps_19 : decode cX12_jumps 19 = .ok (.istore_n 3, 1) := by decide +kernel
theorem dX12_jumps_20 : decode cX12_jumps 20 = .ok (.aload_n 0, 1) := by decide +kernel
theorem dX12_jumps_21 : decode cX12_jumps 21 = .ok (.iload_n 2, 1) := by decide +kernel
theorem dX12_jumps_22 : decode cX12_jumps 22 = .ok (.putfield 19, 3) := by decide +kernel
theorem dX12_jumps_25 : decode cX12_jumps 25 = .ok (.iload_n 3, 1) := by decide +kernel
theorem dX12_jumps_26 : decode cX12_jumps 26 = .ok (.ireturn, 1) := by decide +kernel
theorem dX12_goes_0 : decode cX12_goes 0 = .ok (.iload_n 0, 1) := by decide +kernel
theorem dX12_goes_1 : decode cX12_goes 1 = .ok (.iconst 4, 1) := by decide +kernel
theorem dX12_goes_2 : decode cX12_goes 2 = .ok (.if_icmp .ge 16, 3) := by decide +kernel
theorem dX12_goes_5 : decode cX12_goes 5 = .ok (.iload_n 1, 1) := by decide +kernel
theorem dX12_goes_6 : decode cX12_goes 6 = .ok (.iload_n 2, 1) := by decide +kernel
theorem dX12_goes_7 : decode cX12_goes 7 = .ok (.if_icmp .ne 7, 3) := by decide +kernel
theorem dX12_goes_10 : decode cX12_goes 10 = .ok (.iconst 1, 1) := by decide +kernel
theorem dX12_goes_11 : decode cX12_goes 11 = .ok (.goto 42, 3) := by decide +kernel
theorem dX12_goes_14 : decode cX12_goes 14 = .ok (.iconst 0, 1) := by decide +kernel
theorem dX12_goes_15 : decode cX12_goes 15 = .ok (.goto 38, 3) := by decide +kernel
theorem dX12_goes_18 : decode cX12_goes 18 = .ok (.iload_n 0, 1) := by decide +kernel
theorem dX12_goes_19 : decode cX12_goes 19 = .ok (.bipush 6, 2) := by decide +kernel
theorem dX12_goes_21 : decode cX12_goes 21 = .ok (.if_icmp .ge 16, 3) := by decide +kernel
theorem dX12_goes_24 : decode cX12_goes 24 = .ok (.iload_n 1, 1) := by decide +kernel
theorem dX12_goes_25 : decode cX12_goes 25 = .ok (.iload_n 2, 1) := by decide +kernel
theorem dX12_goes_26 : decode cX12_goes 26 = .ok (.if_icmp .ge 7, 3) := by decide +kernel
theorem dX12_goes_29 : decode cX12_goes 29 = .ok (.iconst 1, 1) := by decide +kernel
theorem dX12_goes_30 : decode cX12_goes 30 = .ok (.goto 23, 3) := by decide +kernel
theorem dX12_goes_33 : decode cX12_goes 33 = .ok (.iconst 0, 1) := by decide +kernel
theorem dX12_goes_34 : decode cX12_goes 34 = .ok (.goto 19, 3) := by decide +kernel
theorem dX12_goes_37 : decode cX12_goes 37 = .ok (.iload_n 1, 1) := by decide +kernel
theorem dX12_goes_38 : decode cX12_goes 38 = .ok (.ldc 64, 2) := by decide +kernel
theorem dX12_goes_40 : decode cX12_goes 40 = .ok (.iadd, 1) := by decide +kernel
theorem dX12_goes_41 : decode cX12_goes 41 = .ok (.iload_n 2, 1) := by decide +kernel
theorem dX12_goes_42 : decode cX12_goes 42 = .ok (.ldc 64, 2) := by decide +kernel
theorem dX12_goes_44 : decode cX12_goes 44 = .ok (.iadd, 1) := by decide +kernel
theorem dX12_goes_45 : decode cX12_goes 45 = .ok (.if_icmp .ge 7, 3) := by decide +kernel
theorem dX12_goes_48 : decode cX12_goes 48 = .ok (.iconst 1, 1) := by decide +kernel
theorem dX12_goes_49 : decode cX12_goes 49 = .ok (.goto 4, 3) := by decide +kernel
theorem dX12_goes_52 : decode cX12_goes 52 = .ok (.iconst 0, 1) := by decide +kernel
theorem dX12_goes_53 : decode cX12_goes 53 = .ok (.istore_n 3, 1) := by decide +kernel
theorem dX12_goes_54 : decode cX12_goes 54 = .ok (.iload_n 3, 1) := by decide +kernel
theorem dX12_goes_55 : decode cX12_goes 55 = .ok (.iload_n 0, 1) := by decide +kernel
theorem dX12_goes_56 : decode cX12_goes 56 = .ok (.iconst 1, 1) := by decide +kernel
theorem dX12_goes_57 : decode cX12_goes 57 = .ok (.iand, 1) := by decide +kernel
theorem dX12_goes_58 : decode cX12_goes 58 = .ok (.ifCond .ne 7, 3) := by decide +kernel
theorem dX12_goes_61 : decode cX12_goes 61 = .ok (.iconst 1, 1) := by decide +kernel
theorem dX12_goes_62 : decode cX12_goes 62 = .ok (.goto 4, 3) := by decide +kernel
theorem dX12_goes_65 : decode cX12_goes 65 = .ok (.iconst 0, 1) := by decide +kernel
theorem dX12_goes_66 : decode cX12_goes 66 = .ok (.if_icmp .ne 7, 3) := by decide +kernel
theorem dX12_goes_69 : decode cX12_goes 69 = .ok (.iconst 1, 1) := by decide +kernel
theorem dX12_goes_70 : decode cX12_goes 70 = .ok (.goto 4, 3) := by decide +kernel
theorem dX12_goes_73 : decode cX12_goes 73 = .ok (.iconst 0, 1) := by decide +kernel
theorem dX12_goes_74 : decode cX12_goes 74 = .ok (.ireturn, 1) := by decide +kernel
theorem dX12_goesOn_0 : decode cX12_goesOn 0 = .ok (.iload_n 2, 1) := by decide +kernel
theorem dX12_goesOn_1 : decode cX12_goesOn 1 = .ok (.ifCond .ne 8, 3) := by decide +kernel
theorem dX12_goesOn_4 : decode cX12_goesOn 4 = .ok (.aload_n 0, 1) := by decide +kernel
theorem dX12_goesOn_5 : decode cX12_goesOn 5 = .ok (.invokevirtual 55, 3) := by decide +kernel
theorem dX12_goesOn_8 : decode cX12_goesOn 8 = .ok (.ireturn, 1) := by decide +kernel
theorem dX12_goesOn_9 : decode cX12_goesOn 9 = .ok (.aload_n 0, 1) := by decide +kernel
theorem dX12_goesOn_10 : decode cX12_goesOn 10 = .ok (.getfield 19, 3) := by decide +kernel
theorem dX12_goesOn_13 : decode cX12_goesOn 13 = .ok (.iload_n 1, 1) := by decide +kernel
theorem dX12_goesOn_14 : decode cX12_goesOn 14 = .ok (.bipush 31, 2) := by decide +kernel
theorem dX12_goesOn_16 : decode cX12_goesOn 16 = .ok (.ishr, 1) := by decide +kernel
theorem dX12_goesOn_17 : decode cX12_goesOn 17 = .ok (.bipush 12, 2) := by decide +kernel
theorem dX12_goesOn_19 : decode cX12_goesOn 19 = .ok (.ishl, 1) := by decide +kernel
theorem dX12_goesOn_20 : decode cX12_goesOn 20 = .ok (.iload_n 1, 1) := by decide +kernel
theorem dX12_goesOn_21 : decode cX12_goesOn 21 = .ok (.bipush 7, 2) := by decide +kernel
theorem dX12_goesOn_23 : decode cX12_goesOn 23 = .ok (.ishr, 1) := by decide +kernel
theorem dX12_goesOn_24 : decode cX12_goesOn 24 = .ok (.iconst 1, 1) := by decide +kernel
theorem dX12_goesOn_25 : decode cX12_goesOn 25 = .ok (.iand, 1) := by decide +kernel
theorem dX12_goesOn_26 : decode cX12_goesOn 26 = .ok (.bipush 11, 2) := by decide +kernel
theorem dX12_goesOn_28 : decode cX12_goesOn 28 = .ok (.ishl, 1) := by decide +kernel
theorem dX12_goesOn_29 : decode cX12_goesOn 29 = .ok (.ior, 1) := by decide +kernel
theorem dX12_goesOn_30 : decode cX12_goesOn 30 = .ok (.iload_n 1, 1) := by decide +kernel
theorem dX12_goesOn_31 : decode cX12_goesOn 31 = .ok (.bipush 25, 2) := by decide +kernel
theorem dX12_goesOn_33 : decode cX12_goesOn 33 = .ok (.ishr, 1) := by decide +kernel
theorem dX12_goesOn_34 : decode cX12_goesOn 34 = .ok (.bipush 63, 2) := by decide +kernel
theorem dX12_goesOn_36 : decode cX12_goesOn 36 = .ok (.iand, 1) := by decide +kernel
theorem dX12_goesOn_37 : decode cX12_goesOn 37 = .ok (.iconst 5, 1) := by decide +kernel
theorem dX12_goesOn_38 : decode cX12_goesOn 38 = .ok (.ishl, 1) := by decide +kernel
theorem dX12_goesOn_39 : decode cX12_goesOn 39 = .ok (.ior, 1) := by decide +kernel
theorem dX12_goesOn_40 : decode cX12_goesOn 40 = .ok (.iload_n 1, 1) := by decide +kernel
theorem dX12_goesOn_41 : decode cX12_goesOn 41 = .ok (.bipush 8, 2) := by decide +kernel
theorem dX12_goesOn_43 : decode cX12_goesOn 43 = .ok (.ishr, 1) := by decide +kernel
theorem dX12_goesOn_44 : decode cX12_goesOn 44 = .ok (.bipush 15, 2) := by decide +kernel
theorem dX12_goesOn_46 : decode cX12_goesOn 46 = .ok (.iand, 1) := by decide +kernel
theorem dX12_goesOn_47 : decode cX12_goesOn 47 = .ok (.iconst 1, 1) := by decide +kernel
theorem dX12_goesOn_48 : decode cX12_goesOn 48 = .ok (.ishl, 1) := by decide +kernel
theorem dX12_goesOn_49 : decode cX12_goesOn 49 = .ok (.ior, 1) := by decide +kernel
theorem dX12_goesOn_50 : decode cX12_goesOn 50 = .ok (.iadd, 1) := by decide +kernel
theorem dX12_goesOn_51 : decode cX12_goesOn 51 = .ok (.istore_n 3, 1) := by decide +kernel
theorem dX12_goesOn_52 : decode cX12_goesOn 52 = .ok (.iload_n 3, 1) := by decide +kernel
theorem dX12_goesOn_53 : decode cX12_goesOn 53 = .ok (.iconst 3, 1) := by decide +kernel
theorem dX12_goesOn_54 : decode cX12_goesOn 54 = .ok (.iand, 1) := by decide +kernel
theorem dX12_goesOn_55 : decode cX12_goesOn 55 = .ok (.ifCond .eq 5, 3) := by decide +kernel
theorem dX12_goesOn_58 : decode cX12_goesOn 58 = .ok (.iconst 3, 1) := by decide +kernel
theorem dX12_goesOn_59 : decode cX12_goesOn 59 = .ok (.ireturn, 1) := by decide +kernel
theorem dX12_goesOn_60 : decode cX12_goesOn 60 = .ok (.aload_n 0, 1) := by decide +kernel
theorem dX12_goesOn_61 : decode cX12_goesOn 61 = .ok (.iload_n 3, 1) := by decide +kernel
theorem dX12_goesOn_62 : decode cX12_goesOn 62 = .ok (.putfield 19, 3) := by decide +kernel
theorem dX12_goesOn_65 : decode cX12_goesOn 65 = .ok (.aload_n 0, 1) := by decide +kernel
theorem dX12_goesOn_66 : decode cX12_goesOn 66 = .ok (.dup, 1) := by decide +kernel
theorem dX12_goesOn_67 : decode cX12_goesOn 67 = .ok (.getfield 59, 3) := by decide +kernel
theorem dX12_goesOn_70 : decode cX12_goesOn 70 = .ok (.iconst 1, 1) := by decide +kernel
theorem dX12_goesOn_71 : decode cX12_goesOn 71 = .ok (.iadd, 1) := by decide +kernel
theorem dX12_goesOn_72 : decode cX12_goesOn 72 = .ok (.putfield 59, 3) := by decide +kernel
theorem dX12_goesOn_75 : decode cX12_goesOn 75 = .ok (.iconst 0, 1) := by decide +kernel
theorem dX12_goesOn_76 : decode cX12_goesOn 76 = .ok (.ireturn, 1) := by decide +kernel
theorem dX12_loads_0 : decode cX12_loads 0 = .ok (.iload_n 2, 1) := by decide +kernel
theorem dX12_loads_1 : decode cX12_loads 1 = .ok (.iconst 3, 1) := by decide +kernel
theorem dX12_loads_2 : decode cX12_loads 2 = .ok (.iand, 1) := by decide +kernel
theorem dX12_loads_3 : decode cX12_loads 3 = .ok (.istore 4, 2) := by decide +kernel
theorem dX12_loads_5 : decode cX12_loads 5 = .ok (.iload 4, 2) := by decide +kernel
theorem dX12_loads_7 : decode cX12_loads 7 = .ok (.iconst 3, 1) := by decide +kernel
theorem dX12_loads_8 : decode cX12_loads 8 = .ok (.if_icmp .eq 9, 3) := by decide +kernel
theorem dX12_loads_11 : decode cX12_loads 11 = .ok (.iload_n 2, 1) := by decide +kernel
theorem dX12_loads_12 : decode cX12_loads 12 = .ok (.bipush 6, 2) := by decide +kernel
theorem dX12_loads_14 : decode cX12_loads 14 = .ok (.if_icmp .ne 5, 3) := by decide +kernel
theorem dX12_loads_17 : decode cX12_loads 17 = .ok (.iconst 2, 1) := by decide +kernel
theorem dX12_loads_18 : decode cX12_loads 18 = .ok (.ireturn, 1) := by decide +kernel
theorem dX12_loads_19 : decode cX12_loads 19 = .ok (.iload_n 3, 1) := by decide +kernel
theorem dX12_loads_20 : decode cX12_loads 20 = .ok (.iconst 1, 1) := by decide +kernel
theorem dX12_loads_21 : decode cX12_loads 21 = .ok (.iload 4, 2) := by decide +kernel
theorem dX12_loads_23 : decode cX12_loads 23 = .ok (.ishl, 1) := by decide +kernel
theorem dX12_loads_24 : decode cX12_loads 24 = .ok (.iconst 1, 1) := by decide +kernel
theorem dX12_loads_25 : decode cX12_loads 25 = .ok (.isub, 1) := by decide +kernel
theorem dX12_loads_26 : decode cX12_loads 26 = .ok (.iand, 1) := by decide +kernel
theorem dX12_loads_27 : decode cX12_loads 27 = .ok (.ifCond .eq 5, 3) := by decide +kernel
theorem dX12_loads_30 : decode cX12_loads 30 = .ok (.iconst 4, 1) := by decide +kernel
theorem dX12_loads_31 : decode cX12_loads 31 = .ok (.ireturn, 1) := by decide +kernel
theorem dX12_loads_32 : decode cX12_loads 32 = .ok (.iload_n 3, 1) := by decide +kernel
theorem dX12_loads_33 : decode cX12_loads 33 = .ok (.iconst 2, 1) := by decide +kernel
theorem dX12_loads_34 : decode cX12_loads 34 = .ok (.iushr, 1) := by decide +kernel
theorem dX12_loads_35 : decode cX12_loads 35 = .ok (.aload_n 0, 1) := by decide +kernel
theorem dX12_loads_36 : decode cX12_loads 36 = .ok (.getfield 23, 3) := by decide +kernel
theorem dX12_loads_39 : decode cX12_loads 39 = .ok (.arraylength, 1) := by decide +kernel
theorem dX12_loads_40 : decode cX12_loads 40 = .ok (.if_icmp .lt 5, 3) := by decide +kernel
theorem dX12_loads_43 : decode cX12_loads 43 = .ok (.iconst 5, 1) := by decide +kernel
theorem dX12_loads_44 : decode cX12_loads 44 = .ok (.ireturn, 1) := by decide +kernel
theorem dX12_loads_45 : decode cX12_loads 45 = .ok (.aload_n 0, 1) := by decide +kernel
theorem dX12_loads_46 : decode cX12_loads 46 = .ok (.getfield 23, 3) := by decide +kernel
theorem dX12_loads_49 : decode cX12_loads 49 = .ok (.iload_n 3, 1) := by decide +kernel
theorem dX12_loads_50 : decode cX12_loads 50 = .ok (.iconst 2, 1) := by decide +kernel
theorem dX12_loads_51 : decode cX12_loads 51 = .ok (.iushr, 1) := by decide +kernel
theorem dX12_loads_52 : decode cX12_loads 52 = .ok (.iaload, 1) := by decide +kernel
theorem dX12_loads_53 : decode cX12_loads 53 = .ok (.bipush 8, 2) := by decide +kernel
theorem dX12_loads_55 : decode cX12_loads 55 = .ok (.iload_n 3, 1) := by decide +kernel
theorem dX12_loads_56 : decode cX12_loads 56 = .ok (.iconst 3, 1) := by decide +kernel
theorem dX12_loads_57 : decode cX12_loads 57 = .ok (.iand, 1) := by decide +kernel
theorem dX12_loads_58 : decode cX12_loads 58 = .ok (.imul, 1) := by decide +kernel
theorem dX12_loads_59 : decode cX12_loads 59 = .ok (.iushr, 1) := by decide +kernel
theorem dX12_loads_60 : decode cX12_loads 60 = .ok (.istore 5, 2) := by decide +kernel
theorem dX12_loads_62 : decode cX12_loads 62 = .ok (.aload_n 0, 1) := by decide +kernel
theorem dX12_loads_63 : decode cX12_loads 63 = .ok (.iload_n 1, 1) := by decide +kernel
theorem dX12_loads_64 : decode cX12_loads 64 = .ok (.iload_n 2, 1) := by decide +kernel
theorem dX12_loads_65 : decode cX12_loads 65 = .ok (.ifCond .ne 9, 3) := by decide +kernel
theorem dX12_loads_68 : decode cX12_loads 68 = .ok (.iload 5, 2) := by decide +kernel
theorem dX12_loads_70 : decode cX12_loads 70 = .ok (.i2b, 1) := by decide +kernel
theorem dX12_loads_71 : decode cX12_loads 71 = .ok (.goto 43, 3) := by decide +kernel
theorem dX12_loads_74 : decode cX12_loads 74 = .ok (.iload_n 2, 1) := by decide +kernel
theorem dX12_loads_75 : decode cX12_loads 75 = .ok (.iconst 1, 1) := by decide +kernel
theorem dX12_loads_76 : decode cX12_loads 76 = .ok (.if_icmp .ne 9, 3) := by decide +kernel
theorem dX12_loads_79 : decode cX12_loads 79 = .ok (.iload 5, 2) := by decide +kernel
theorem dX12_loads_81 : decode cX12_loads 81 = .ok (.i2s, 1) := by decide +kernel
theorem dX12_loads_82 : decode cX12_loads 82 = .ok (.goto 32, 3) := by decide +kernel
theorem dX12_loads_85 : decode cX12_loads 85 = .ok (.iload_n 2, 1) := by decide +kernel
theorem dX12_loads_86 : decode cX12_loads 86 = .ok (.iconst 2, 1) := by decide +kernel
theorem dX12_loads_87 : decode cX12_loads 87 = .ok (.if_icmp .ne 8, 3) := by decide +kernel
theorem dX12_loads_90 : decode cX12_loads 90 = .ok (.iload 5, 2) := by decide +kernel
theorem dX12_loads_92 : decode cX12_loads 92 = .ok (.goto 22, 3) := by decide +kernel
theorem dX12_loads_95 : decode cX12_loads 95 = .ok (.iload_n 2, 1) := by decide +kernel
theorem dX12_loads_96 : decode cX12_loads 96 = .ok (.iconst 4, 1) := by decide +kernel
theorem dX12_loads_97 : decode cX12_loads 97 = .ok (.if_icmp .ne 12, 3) := by decide +kernel
theorem dX12_loads_100 : decode cX12_loads 100 = .ok (.iload 5, 2) := by decide +kernel
theorem dX12_loads_102 : decode cX12_loads 102 = .ok (.sipush 255, 3) := by decide +kernel
theorem dX12_loads_105 : decode cX12_loads 105 = .ok (.iand, 1) := by decide +kernel
theorem dX12_loads_106 : decode cX12_loads 106 = .ok (.goto 8, 3) := by decide +kernel
theorem dX12_loads_109 : decode cX12_loads 109 = .ok (.iload 5, 2) := by decide +kernel
theorem dX12_loads_111 : decode cX12_loads 111 = .ok (.ldc 65, 2) := by decide +kernel
theorem dX12_loads_113 : decode cX12_loads 113 = .ok (.iand, 1) := by decide +kernel
theorem dX12_loads_114 : decode cX12_loads 114 = .ok (.invokevirtual 26, 3) := by decide +kernel
theorem dX12_loads_117 : decode cX12_loads 117 = .ok (.ireturn, 1) := by decide +kernel
theorem dX12_stores_0 : decode cX12_stores 0 = .ok (.iload_n 1, 1) := by decide +kernel
theorem dX12_stores_1 : decode cX12_stores 1 = .ok (.iconst 2, 1) := by decide +kernel
theorem dX12_stores_2 : decode cX12_stores 2 = .ok (.if_icmp .le 5, 3) := by decide +kernel
theorem dX12_stores_5 : decode cX12_stores 5 = .ok (.iconst 2, 1) := by decide +kernel
theorem dX12_stores_6 : decode cX12_stores 6 = .ok (.ireturn, 1) := by decide +kernel
theorem dX12_stores_7 : decode cX12_stores 7 = .ok (.iload_n 2, 1) := by decide +kernel
theorem dX12_stores_8 : decode cX12_stores 8 = .ok (.iconst 1, 1) := by decide +kernel
theorem dX12_stores_9 : decode cX12_stores 9 = .ok (.iload_n 1, 1) := by decide +kernel
theorem dX12_stores_10 : decode cX12_stores 10 = .ok (.ishl, 1) := by decide +kernel
theorem dX12_stores_11 : decode cX12_stores 11 = .ok (.iconst 1, 1) := by decide +kernel
theorem dX12_stores_12 : decode cX12_stores 12 = .ok (.isub, 1) := by decide +kernel
theorem dX12_stores_13 : decode cX12_stores 13 = .ok (.iand, 1) := by decide +kernel
theorem dX12_stores_14 : decode cX12_stores 14 = .ok (.ifCond .eq 5, 3) := by decide +kernel
theorem dX12_stores_17 : decode cX12_stores 17 = .ok (.iconst 4, 1) := by decide +kernel
theorem dX12_stores_18 : decode cX12_stores 18 = .ok (.ireturn, 1) := by decide +kernel
theorem dX12_stores_19 : decode cX12_stores 19 = .ok (.iload_n 2, 1) := by decide +kernel
theorem dX12_stores_20 : decode cX12_stores 20 = .ok (.iconst 2, 1) := by decide +kernel
theorem dX12_stores_21 : decode cX12_stores 21 = .ok (.iushr, 1) := by decide +kernel
theorem dX12_stores_22 : decode cX12_stores 22 = .ok (.aload_n 0, 1) := by decide +kernel
theorem dX12_stores_23 : decode cX12_stores 23 = .ok (.getfield 23, 3) := by decide +kernel
theorem dX12_stores_26 : decode cX12_stores 26 = .ok (.arraylength, 1) := by decide +kernel
theorem dX12_stores_27 : decode cX12_stores 27 = .ok (.if_icmp .lt 5, 3) := by decide +kernel
theorem dX12_stores_30 : decode cX12_stores 30 = .ok (.iconst 5, 1) := by decide +kernel
theorem dX12_stores_31 : decode cX12_stores 31 = .ok (.ireturn, 1) := by decide +kernel
theorem dX12_stores_32 : decode cX12_stores 32 = .ok (.bipush 8, 2) := by decide +kernel
theorem dX12_stores_34 : decode cX12_stores 34 = .ok (.iload_n 2, 1) := by decide +kernel
theorem dX12_stores_35 : decode cX12_stores 35 = .ok (.iconst 3, 1) := by decide +kernel
theorem dX12_stores_36 : decode cX12_stores 36 = .ok (.iand, 1) := by decide +kernel
theorem dX12_stores_37 : decode cX12_stores 37 = .ok (.imul, 1) := by decide +kernel
theorem dX12_stores_38 : decode cX12_stores 38 = .ok (.istore 4, 2) := by decide +kernel
theorem dX12_stores_40 : decode cX12_stores 40 = .ok (.iload_n 1, 1) := by decide +kernel
theorem dX12_stores_41 : decode cX12_stores 41 = .ok (.ifCond .ne 9, 3) := by decide +kernel
theorem dX12_stores_44 : decode cX12_stores 44 = .ok (.sipush 255, 3) := by decide +kernel
theorem dX12_stores_47 : decode cX12_stores 47 = .ok (.goto 14, 3) := by decide +kernel
theorem dX12_stores_50 : decode cX12_stores 50 = .ok (.iload_n 1, 1) := by decide +kernel
theorem dX12_stores_51 : decode cX12_stores 51 = .ok (.iconst 1, 1) := by decide +kernel
theorem dX12_stores_52 : decode cX12_stores 52 = .ok (.if_icmp .ne 8, 3) := by decide +kernel
theorem dX12_stores_55 : decode cX12_stores 55 = .ok (.ldc 65, 2) := by decide +kernel
theorem dX12_stores_57 : decode cX12_stores 57 = .ok (.goto 4, 3) := by decide +kernel
theorem dX12_stores_60 : decode cX12_stores 60 = .ok (.iconst (-1), 1) := by decide +kernel
theorem dX12_stores_61 : decode cX12_stores 61 = .ok (.iload 4, 2) := by decide +kernel
theorem dX12_stores_63 : decode cX12_stores 63 = .ok (.ishl, 1) := by decide +kernel
theorem dX12_stores_64 : decode cX12_stores 64 = .ok (.istore 5, 2) := by decide +kernel
theorem dX12_stores_66 : decode cX12_stores 66 = .ok (.aload_n 0, 1) := by decide +kernel
theorem dX12_stores_67 : decode cX12_stores 67 = .ok (.getfield 23, 3) := by decide +kernel
theorem dX12_stores_70 : decode cX12_stores 70 = .ok (.iload_n 2, 1) := by decide +kernel
theorem dX12_stores_71 : decode cX12_stores 71 = .ok (.iconst 2, 1) := by decide +kernel
theorem dX12_stores_72 : decode cX12_stores 72 = .ok (.iushr, 1) := by decide +kernel
theorem dX12_stores_73 : decode cX12_stores 73 = .ok (.aload_n 0, 1) := by decide +kernel
theorem dX12_stores_74 : decode cX12_stores 74 = .ok (.getfield 23, 3) := by decide +kernel
theorem dX12_stores_77 : decode cX12_stores 77 = .ok (.iload_n 2, 1) := by decide +kernel
theorem dX12_stores_78 : decode cX12_stores 78 = .ok (.iconst 2, 1) := by decide +kernel
theorem dX12_stores_79 : decode cX12_stores 79 = .ok (.iushr, 1) := by decide +kernel
theorem dX12_stores_80 : decode cX12_stores 80 = .ok (.iaload, 1) := by decide +kernel
theorem dX12_stores_81 : decode cX12_stores 81 = .ok (.iload 5, 2) := by decide +kernel
theorem dX12_stores_83 : decode cX12_stores 83 = .ok (.iconst (-1), 1) := by decide +kernel
theorem dX12_stores_84 : decode cX12_stores 84 = .ok (.ixor, 1) := by decide +kernel
theorem dX12_stores_85 : decode cX12_stores 85 = .ok (.iand, 1) := by decide +kernel
theorem dX12_stores_86 : decode cX12_stores 86 = .ok (.iload_n 3, 1) := by decide +kernel
theorem dX12_stores_87 : decode cX12_stores 87 = .ok (.iload 4, 2) := by decide +kernel
theorem dX12_stores_89 : decode cX12_stores 89 = .ok (.ishl, 1) := by decide +kernel
theorem dX12_stores_90 : decode cX12_stores 90 = .ok (.iload 5, 2) := by decide +kernel
theorem dX12_stores_92 : decode cX12_stores 92 = .ok (.iand, 1) := by decide +kernel
theorem dX12_stores_93 : decode cX12_stores 93 = .ok (.ior, 1) := by decide +kernel
theorem dX12_stores_94 : decode cX12_stores 94 = .ok (.iastore, 1) := by decide +kernel
theorem dX12_stores_95 : decode cX12_stores 95 = .ok (.aload_n 0, 1) := by decide +kernel
theorem dX12_stores_96 : decode cX12_stores 96 = .ok (.invokevirtual 55, 3) := by decide +kernel
theorem dX12_stores_99 : decode cX12_stores 99 = .ok (.ireturn, 1) := by decide +kernel
theorem dX12_reckons_0 : decode cX12_reckons 0 = .ok (.iload_n 1, 1) := by decide +kernel
theorem dX12_reckons_1 : decode cX12_reckons 1 = .ok (.bipush 20, 2) := by decide +kernel
theorem dX12_reckons_3 : decode cX12_reckons 3 = .ok (.ishr, 1) := by decide +kernel
theorem dX12_reckons_4 : decode cX12_reckons 4 = .ok (.istore 4, 2) := by decide +kernel
theorem dX12_reckons_6 : decode cX12_reckons 6 = .ok (.iload_n 1, 1) := by decide +kernel
theorem dX12_reckons_7 : decode cX12_reckons 7 = .ok (.bipush 25, 2) := by decide +kernel
theorem dX12_reckons_9 : decode cX12_reckons 9 = .ok (.iushr, 1) := by decide +kernel
theorem dX12_reckons_10 : decode cX12_reckons 10 = .ok (.istore 5, 2) := by decide +kernel
theorem dX12_reckons_12 : decode cX12_reckons 12 = .ok (.iload 4, 2) := by decide +kernel
theorem dX12_reckons_14 : decode cX12_reckons 14 = .ok (.bipush 31, 2) := by decide +kernel
theorem dX12_reckons_16 : decode cX12_reckons 16 = .ok (.iand, 1) := by decide +kernel
theorem dX12_reckons_17 : decode cX12_reckons 17 = .ok (.istore 6, 2) := by decide +kernel
theorem dX12_reckons_19 : decode cX12_reckons 19 = .ok (.iload_n 2, 1) := by decide +kernel
theorem dX12_reckons_20 : decode cX12_reckons 20 = .ok (.iconst 1, 1) := by decide +kernel
theorem dX12_reckons_21 : decode cX12_reckons 21 = .ok (.if_icmp .ne 8, 3) := by decide +kernel
theorem dX12_reckons_24 : decode cX12_reckons 24 = .ok (.iload 5, 2) := by decide +kernel
theorem dX12_reckons_26 : decode cX12_reckons 26 = .ok (.ifCond .ne 20, 3) := by decide +kernel
theorem dX12_reckons_29 : decode cX12_reckons 29 = .ok (.iload_n 2, 1) := by decide +kernel
theorem dX12_reckons_30 : decode cX12_reckons 30 = .ok (.iconst 5, 1) := by decide +kernel
theorem dX12_reckons_31 : decode cX12_reckons 31 = .ok (.if_icmp .ne 17, 3) := by decide +kernel
theorem dX12_reckons_34 : decode cX12_reckons 34 = .ok (.iload 5, 2) := by decide +kernel
theorem dX12_reckons_36 : decode cX12_reckons 36 = .ok (.ifCond .eq 12, 3) := by decide +kernel
theorem dX12_reckons_39 : decode cX12_reckons 39 = .ok (.iload 5, 2) := by decide +kernel
theorem dX12_reckons_41 : decode cX12_reckons 41 = .ok (.bipush 32, 2) := by decide +kernel
theorem dX12_reckons_43 : decode cX12_reckons 43 = .ok (.if_icmp .eq 5, 3) := by decide +kernel
theorem dX12_reckons_46 : decode cX12_reckons 46 = .ok (.iconst 2, 1) := by decide +kernel
theorem dX12_reckons_47 : decode cX12_reckons 47 = .ok (.ireturn, 1) := by decide +kernel
theorem dX12_reckons_48 : decode cX12_reckons 48 = .ok (.aload_n 0, 1) := by decide +kernel
theorem dX12_reckons_49 : decode cX12_reckons 49 = .ok (.iload_n 1, 1) := by decide +kernel
theorem dX12_reckons_50 : decode cX12_reckons 50 = .ok (.iload_n 2, 1) := by decide +kernel
theorem dX12_reckons_51 : decode cX12_reckons 51 = .ok (.iconst 1, 1) := by decide +kernel
theorem dX12_reckons_52 : decode cX12_reckons 52 = .ok (.if_icmp .ne 10, 3) := by decide +kernel
theorem dX12_reckons_55 : decode cX12_reckons 55 = .ok (.iload_n 3, 1) := by decide +kernel
theorem dX12_reckons_56 : decode cX12_reckons 56 = .ok (.iload 6, 2) := by decide +kernel
theorem dX12_reckons_58 : decode cX12_reckons 58 = .ok (.ishl, 1) := by decide +kernel
theorem dX12_reckons_59 : decode cX12_reckons 59 = .ok (.goto 34, 3) := by decide +kernel
theorem dX12_reckons_62 : decode cX12_reckons 62 = .ok (.iload_n 2, 1) := by decide +kernel
theorem dX12_reckons_63 : decode cX12_reckons 63 = .ok (.iconst 5, 1) := by decide +kernel
theorem dX12_reckons_64 : decode cX12_reckons 64 = .ok (.if_icmp .ne 22, 3) := by decide +kernel
theorem dX12_reckons_67 : decode cX12_reckons 67 = .ok (.iload 5, 2) := by decide +kernel
theorem dX12_reckons_69 : decode cX12_reckons 69 = .ok (.ifCond .ne 10, 3) := by decide +kernel
theorem dX12_reckons_72 : decode cX12_reckons 72 = .ok (.iload_n 3, 1) := by decide +kernel
theorem dX12_reckons_73 : decode cX12_reckons 73 = .ok (.iload 6, 2) := by decide +kernel
theorem dX12_reckons_75 : decode cX12_reckons 75 = .ok (.iushr, 1) := by decide +kernel
theorem dX12_reckons_76 : decode cX12_reckons 76 = .ok (.goto 17, 3) := by decide +kernel
theorem dX12_reckons_79 : decode cX12_reckons 79 = .ok (.iload_n 3, 1) := by decide +kernel
theorem dX12_reckons_80 : decode cX12_reckons 80 = .ok (.iload 6, 2) := by decide +kernel
theorem dX12_reckons_82 : decode cX12_reckons 82 = .ok (.ishr, 1) := by decide +kernel
theorem dX12_reckons_83 : decode cX12_reckons 83 = .ok (.goto 10, 3) := by decide +kernel
theorem dX12_reckons_86 : decode cX12_reckons 86 = .ok (.iload_n 2, 1) := by decide +kernel
theorem dX12_reckons_87 : decode cX12_reckons 87 = .ok (.iload_n 3, 1) := by decide +kernel
theorem dX12_reckons_88 : decode cX12_reckons 88 = .ok (.iload 4, 2) := by decide +kernel
theorem dX12_reckons_90 : decode cX12_reckons 90 = .ok (.invokestatic 66, 3) := by decide +kernel
theorem dX12_reckons_93 : decode cX12_reckons 93 = .ok (.invokevirtual 26, 3) := by decide +kernel
theorem dX12_reckons_96 : decode cX12_reckons 96 = .ok (.ireturn, 1) := by decide +kernel
theorem dX12_plain_0 : decode cX12_plain 0 = .ok (.iload_n 0, 1) := by decide +kernel
theorem dX12_plain_1 : decode cX12_plain 1 = .ok (.tableswitch 97 0 6 #[43, 47, 54, 65, 82, 86, 93], 43) := by decide +kernel
theorem dX12_plain_44 : decode cX12_plain 44 = .ok (.iload_n 1, 1) := by decide +kernel
theorem dX12_plain_45 : decode cX12_plain 45 = .ok (.iload_n 2, 1) := by decide +kernel
theorem dX12_plain_46 : decode cX12_plain 46 = .ok (.iadd, 1) := by decide +kernel
theorem dX12_plain_47 : decode cX12_plain 47 = .ok (.ireturn, 1) := by decide +kernel
theorem dX12_plain_48 : decode cX12_plain 48 = .ok (.iload_n 1, 1) := by decide +kernel
theorem dX12_plain_49 : decode cX12_plain 49 = .ok (.iload_n 2, 1) := by decide +kernel
theorem dX12_plain_50 : decode cX12_plain 50 = .ok (.bipush 31, 2) := by decide +kernel
theorem dX12_plain_52 : decode cX12_plain 52 = .ok (.iand, 1) := by decide +kernel
theorem dX12_plain_53 : decode cX12_plain 53 = .ok (.ishl, 1) := by decide +kernel
theorem dX12_plain_54 : decode cX12_plain 54 = .ok (.ireturn, 1) := by decide +kernel
theorem dX12_plain_55 : decode cX12_plain 55 = .ok (.iload_n 1, 1) := by decide +kernel
theorem dX12_plain_56 : decode cX12_plain 56 = .ok (.iload_n 2, 1) := by decide +kernel
theorem dX12_plain_57 : decode cX12_plain 57 = .ok (.if_icmp .ge 7, 3) := by decide +kernel
theorem dX12_plain_60 : decode cX12_plain 60 = .ok (.iconst 1, 1) := by decide +kernel
theorem dX12_plain_61 : decode cX12_plain 61 = .ok (.goto 4, 3) := by decide +kernel
theorem dX12_plain_64 : decode cX12_plain 64 = .ok (.iconst 0, 1) := by decide +kernel
theorem dX12_plain_65 : decode cX12_plain 65 = .ok (.ireturn, 1) := by decide +kernel
theorem dX12_plain_66 : decode cX12_plain 66 = .ok (.iload_n 1, 1) := by decide +kernel
theorem dX12_plain_67 : decode cX12_plain 67 = .ok (.ldc 64, 2) := by decide +kernel
theorem dX12_plain_69 : decode cX12_plain 69 = .ok (.iadd, 1) := by decide +kernel
theorem dX12_plain_70 : decode cX12_plain 70 = .ok (.iload_n 2, 1) := by decide +kernel
theorem dX12_plain_71 : decode cX12_plain 71 = .ok (.ldc 64, 2) := by decide +kernel
theorem dX12_plain_73 : decode cX12_plain 73 = .ok (.iadd, 1) := by decide +kernel
theorem dX12_plain_74 : decode cX12_plain 74 = .ok (.if_icmp .ge 7, 3) := by decide +kernel
theorem dX12_plain_77 : decode cX12_plain 77 = .ok (.iconst 1, 1) := by decide +kernel
theorem dX12_plain_78 : decode cX12_plain 78 = .ok (.goto 4, 3) := by decide +kernel
theorem dX12_plain_81 : decode cX12_plain 81 = .ok (.iconst 0, 1) := by decide +kernel
theorem dX12_plain_82 : decode cX12_plain 82 = .ok (.ireturn, 1) := by decide +kernel
theorem dX12_plain_83 : decode cX12_plain 83 = .ok (.iload_n 1, 1) := by decide +kernel
theorem dX12_plain_84 : decode cX12_plain 84 = .ok (.iload_n 2, 1) := by decide +kernel
theorem dX12_plain_85 : decode cX12_plain 85 = .ok (.ixor, 1) := by decide +kernel
theorem dX12_plain_86 : decode cX12_plain 86 = .ok (.ireturn, 1) := by decide +kernel
theorem dX12_plain_87 : decode cX12_plain 87 = .ok (.iload_n 1, 1) := by decide +kernel
theorem dX12_plain_88 : decode cX12_plain 88 = .ok (.iload_n 2, 1) := by decide +kernel
theorem dX12_plain_89 : decode cX12_plain 89 = .ok (.bipush 31, 2) := by decide +kernel
theorem dX12_plain_91 : decode cX12_plain 91 = .ok (.iand, 1) := by decide +kernel
theorem dX12_plain_92 : decode cX12_plain 92 = .ok (.iushr, 1) := by decide +kernel
theorem dX12_plain_93 : decode cX12_plain 93 = .ok (.ireturn, 1) := by decide +kernel
theorem dX12_plain_94 : decode cX12_plain 94 = .ok (.iload_n 1, 1) := by decide +kernel
theorem dX12_plain_95 : decode cX12_plain 95 = .ok (.iload_n 2, 1) := by decide +kernel
theorem dX12_plain_96 : decode cX12_plain 96 = .ok (.ior, 1) := by decide +kernel
theorem dX12_plain_97 : decode cX12_plain 97 = .ok (.ireturn, 1) := by decide +kernel
theorem dX12_plain_98 : decode cX12_plain 98 = .ok (.iload_n 1, 1) := by decide +kernel
theorem dX12_plain_99 : decode cX12_plain 99 = .ok (.iload_n 2, 1) := by decide +kernel
theorem dX12_plain_100 : decode cX12_plain 100 = .ok (.iand, 1) := by decide +kernel
theorem dX12_plain_101 : decode cX12_plain 101 = .ok (.ireturn, 1) := by decide +kernel
theorem dX12_reckons_2_0 : decode cX12_reckons_2 0 = .ok (.iload_n 1, 1) := by decide +kernel
theorem dX12_reckons_2_1 : decode cX12_reckons_2 1 = .ok (.bipush 25, 2) := by decide +kernel
theorem dX12_reckons_2_3 : decode cX12_reckons_2 3 = .ok (.iushr, 1) := by decide +kernel
theorem dX12_reckons_2_4 : decode cX12_reckons_2 4 = .ok (.lookupswitch 100 #[(0, 36), (1, 49), (32, 62)], 36) := by decide +kernel
theorem dX12_reckons_2_40 : decode cX12_reckons_2 40 = .ok (.aload_n 0, 1) := by decide +kernel
theorem dX12_reckons_2_41 : decode cX12_reckons_2 41 = .ok (.iload_n 1, 1) := by decide +kernel
theorem dX12_reckons_2_42 : decode cX12_reckons_2 42 = .ok (.iload_n 2, 1) := by decide +kernel
theorem dX12_reckons_2_43 : decode cX12_reckons_2 43 = .ok (.iload_n 3, 1) := by decide +kernel
theorem dX12_reckons_2_44 : decode cX12_reckons_2 44 = .ok (.iload 4, 2) := by decide +kernel
theorem dX12_reckons_2_46 : decode cX12_reckons_2 46 = .ok (.invokestatic 66, 3) := by decide +kernel
theorem dX12_reckons_2_49 : decode cX12_reckons_2 49 = .ok (.invokevirtual 26, 3) := by decide +kernel
theorem dX12_reckons_2_52 : decode cX12_reckons_2 52 = .ok (.ireturn, 1) := by decide +kernel
theorem dX12_reckons_2_53 : decode cX12_reckons_2 53 = .ok (.aload_n 0, 1) := by decide +kernel
theorem dX12_reckons_2_54 : decode cX12_reckons_2 54 = .ok (.iload_n 1, 1) := by decide +kernel
theorem dX12_reckons_2_55 : decode cX12_reckons_2 55 = .ok (.iload_n 2, 1) := by decide +kernel
theorem dX12_reckons_2_56 : decode cX12_reckons_2 56 = .ok (.iload_n 3, 1) := by decide +kernel
theorem dX12_reckons_2_57 : decode cX12_reckons_2 57 = .ok (.iload 4, 2) := by decide +kernel
theorem dX12_reckons_2_59 : decode cX12_reckons_2 59 = .ok (.invokestatic 69, 3) := by decide +kernel
theorem dX12_reckons_2_62 : decode cX12_reckons_2 62 = .ok (.invokevirtual 26, 3) := by decide +kernel
theorem dX12_reckons_2_65 : decode cX12_reckons_2 65 = .ok (.ireturn, 1) := by decide +kernel
theorem dX12_reckons_2_66 : decode cX12_reckons_2 66 = .ok (.iload_n 2, 1) := by decide +kernel
theorem dX12_reckons_2_67 : decode cX12_reckons_2 67 = .ok (.ifCond .ne 15, 3) := by decide +kernel
theorem dX12_reckons_2_70 : decode cX12_reckons_2 70 = .ok (.aload_n 0, 1) := by decide +kernel
theorem dX12_reckons_2_71 : decode cX12_reckons_2 71 = .ok (.iload_n 1, 1) := by decide +kernel
theorem dX12_reckons_2_72 : decode cX12_reckons_2 72 = .ok (.iload_n 3, 1) := by decide +kernel
theorem dX12_reckons_2_73 : decode cX12_reckons_2 73 = .ok (.iload 4, 2) := by decide +kernel
theorem dX12_reckons_2_75 : decode cX12_reckons_2 75 = .ok (.isub, 1) := by decide +kernel
theorem dX12_reckons_2_76 : decode cX12_reckons_2 76 = .ok (.invokevirtual 26, 3) := by decide +kernel
theorem dX12_reckons_2_79 : decode cX12_reckons_2 79 = .ok (.goto 24, 3) := by decide +kernel
theorem dX12_reckons_2_82 : decode cX12_reckons_2 82 = .ok (.iload_n 2, 1) := by decide +kernel
theorem dX12_reckons_2_83 : decode cX12_reckons_2 83 = .ok (.iconst 5, 1) := by decide +kernel
theorem dX12_reckons_2_84 : decode cX12_reckons_2 84 = .ok (.if_icmp .ne 18, 3) := by decide +kernel
theorem dX12_reckons_2_87 : decode cX12_reckons_2 87 = .ok (.aload_n 0, 1) := by decide +kernel
theorem dX12_reckons_2_88 : decode cX12_reckons_2 88 = .ok (.iload_n 1, 1) := by decide +kernel
theorem dX12_reckons_2_89 : decode cX12_reckons_2 89 = .ok (.iload_n 3, 1) := by decide +kernel
theorem dX12_reckons_2_90 : decode cX12_reckons_2 90 = .ok (.iload 4, 2) := by decide +kernel
theorem dX12_reckons_2_92 : decode cX12_reckons_2 92 = .ok (.bipush 31, 2) := by decide +kernel
theorem dX12_reckons_2_94 : decode cX12_reckons_2 94 = .ok (.iand, 1) := by decide +kernel
theorem dX12_reckons_2_95 : decode cX12_reckons_2 95 = .ok (.ishr, 1) := by decide +kernel
theorem dX12_reckons_2_96 : decode cX12_reckons_2 96 = .ok (.invokevirtual 26, 3) := by decide +kernel
theorem dX12_reckons_2_99 : decode cX12_reckons_2 99 = .ok (.goto 4, 3) := by decide +kernel
theorem dX12_reckons_2_102 : decode cX12_reckons_2 102 = .ok (.iconst 2, 1) := by decide +kernel
theorem dX12_reckons_2_103 : decode cX12_reckons_2 103 = .ok (.ireturn, 1) := by decide +kernel
theorem dX12_reckons_2_104 : decode cX12_reckons_2 104 = .ok (.iconst 2, 1) := by decide +kernel
theorem dX12_reckons_2_105 : decode cX12_reckons_2 105 = .ok (.ireturn, 1) := by decide +kernel
theorem dX12_product_0 : decode cX12_product 0 = .ok (.iload_n 1, 1) := by decide +kernel
theorem dX12_product_1 : decode cX12_product 1 = .ok (.i2l, 1) := by decide +kernel
theorem dX12_product_2 : decode cX12_product 2 = .ok (.ldc2_w 72, 3) := by decide +kernel
theorem dX12_product_5 : decode cX12_product 5 = .ok (.land, 1) := by decide +kernel
theorem dX12_product_6 : decode cX12_product 6 = .ok (.lstore_n 3, 1) := by decide +kernel
theorem dX12_product_7 : decode cX12_product 7 = .ok (.iload_n 2, 1) := by decide +kernel
theorem dX12_product_8 : decode cX12_product 8 = .ok (.i2l, 1) := by decide +kernel
theorem dX12_product_9 : decode cX12_product 9 = .ok (.ldc2_w 72, 3) := by decide +kernel
theorem dX12_product_12 : decode cX12_product 12 = .ok (.land, 1) := by decide +kernel
theorem dX12_product_13 : decode cX12_product 13 = .ok (.lstore 5, 2) := by decide +kernel
theorem dX12_product_15 : decode cX12_product 15 = .ok (.iload_n 0, 1) := by decide +kernel
theorem dX12_product_16 : decode cX12_product 16 = .ok (.tableswitch 105 0 6 #[44, 48, 58, 68, 77, 84, 98], 44) := by decide +kernel
theorem dX12_product_60 : decode cX12_product 60 = .ok (.iload_n 1, 1) := by decide +kernel
theorem dX12_product_61 : decode cX12_product 61 = .ok (.iload_n 2, 1) := by decide +kernel
theorem dX12_product_62 : decode cX12_product 62 = .ok (.imul, 1) := by decide +kernel
theorem dX12_product_63 : decode cX12_product 63 = .ok (.ireturn, 1) := by decide +kernel
theorem dX12_product_64 : decode cX12_product 64 = .ok (.iload_n 1, 1) := by decide +kernel
theorem dX12_product_65 : decode cX12_product 65 = .ok (.i2l, 1) := by decide +kernel
theorem dX12_product_66 : decode cX12_product 66 = .ok (.iload_n 2, 1) := by decide +kernel
theorem dX12_product_67 : decode cX12_product 67 = .ok (.i2l, 1) := by decide +kernel
theorem dX12_product_68 : decode cX12_product 68 = .ok (.lmul, 1) := by decide +kernel
theorem dX12_product_69 : decode cX12_product 69 = .ok (.bipush 32, 2) := by decide +kernel
theorem dX12_product_71 : decode cX12_product 71 = .ok (.lshr, 1) := by decide +kernel
theorem dX12_product_72 : decode cX12_product 72 = .ok (.l2i, 1) := by decide +kernel
theorem dX12_product_73 : decode cX12_product 73 = .ok (.ireturn, 1) := by decide +kernel
theorem dX12_product_74 : decode cX12_product 74 = .ok (.iload_n 1, 1) := by decide +kernel
theorem dX12_product_75 : decode cX12_product 75 = .ok (.i2l, 1) := by decide +kernel
theorem dX12_product_76 : decode cX12_product 76 = .ok (.lload 5, 2) := by decide +kernel
theorem dX12_product_78 : decode cX12_product 78 = .ok (.lmul, 1) := by decide +kernel
theorem dX12_product_79 : decode cX12_product 79 = .ok (.bipush 32, 2) := by decide +kernel
theorem dX12_product_81 : decode cX12_product 81 = .ok (.lshr, 1) := by decide +kernel
theorem dX12_product_82 : decode cX12_product 82 = .ok (.l2i, 1) := by decide +kernel
theorem dX12_product_83 : decode cX12_product 83 = .ok (.ireturn, 1) := by decide +kernel
theorem dX12_product_84 : decode cX12_product 84 = .ok (.lload_n 3, 1) := by decide +kernel
theorem dX12_product_85 : decode cX12_product 85 = .ok (.lload 5, 2) := by decide +kernel
theorem dX12_product_87 : decode cX12_product 87 = .ok (.lmul, 1) := by decide +kernel
theorem dX12_product_88 : decode cX12_product 88 = .ok (.bipush 32, 2) := by decide +kernel
theorem dX12_product_90 : decode cX12_product 90 = .ok (.lushr, 1) := by decide +kernel
theorem dX12_product_91 : decode cX12_product 91 = .ok (.l2i, 1) := by decide +kernel
theorem dX12_product_92 : decode cX12_product 92 = .ok (.ireturn, 1) := by decide +kernel
theorem dX12_product_93 : decode cX12_product 93 = .ok (.iconst 3, 1) := by decide +kernel
theorem dX12_product_94 : decode cX12_product 94 = .ok (.iload_n 1, 1) := by decide +kernel
theorem dX12_product_95 : decode cX12_product 95 = .ok (.iload_n 2, 1) := by decide +kernel
theorem dX12_product_96 : decode cX12_product 96 = .ok (.invokestatic 74, 3) := by decide +kernel
theorem dX12_product_99 : decode cX12_product 99 = .ok (.ireturn, 1) := by decide +kernel
theorem dX12_product_100 : decode cX12_product 100 = .ok (.iload_n 2, 1) := by decide +kernel
theorem dX12_product_101 : decode cX12_product 101 = .ok (.ifCond .ne 7, 3) := by decide +kernel
theorem dX12_product_104 : decode cX12_product 104 = .ok (.iconst (-1), 1) := by decide +kernel
theorem dX12_product_105 : decode cX12_product 105 = .ok (.goto 8, 3) := by decide +kernel
theorem dX12_product_108 : decode cX12_product 108 = .ok (.lload_n 3, 1) := by decide +kernel
theorem dX12_product_109 : decode cX12_product 109 = .ok (.lload 5, 2) := by decide +kernel
theorem dX12_product_111 : decode cX12_product 111 = .ok (.ldiv, 1) := by decide +kernel
theorem dX12_product_112 : decode cX12_product 112 = .ok (.l2i, 1) := by decide +kernel
theorem dX12_product_113 : decode cX12_product 113 = .ok (.ireturn, 1) := by decide +kernel
theorem dX12_product_114 : decode cX12_product 114 = .ok (.iconst 4, 1) := by decide +kernel
theorem dX12_product_115 : decode cX12_product 115 = .ok (.iload_n 1, 1) := by decide +kernel
theorem dX12_product_116 : decode cX12_product 116 = .ok (.iload_n 2, 1) := by decide +kernel
theorem dX12_product_117 : decode cX12_product 117 = .ok (.invokestatic 74, 3) := by decide +kernel
theorem dX12_product_120 : decode cX12_product 120 = .ok (.ireturn, 1) := by decide +kernel
theorem dX12_product_121 : decode cX12_product 121 = .ok (.iload_n 2, 1) := by decide +kernel
theorem dX12_product_122 : decode cX12_product 122 = .ok (.ifCond .ne 7, 3) := by decide +kernel
theorem dX12_product_125 : decode cX12_product 125 = .ok (.iload_n 1, 1) := by decide +kernel
theorem dX12_product_126 : decode cX12_product 126 = .ok (.goto 8, 3) := by decide +kernel
theorem dX12_product_129 : decode cX12_product 129 = .ok (.lload_n 3, 1) := by decide +kernel
theorem dX12_product_130 : decode cX12_product 130 = .ok (.lload 5, 2) := by decide +kernel
theorem dX12_product_132 : decode cX12_product 132 = .ok (.lrem, 1) := by decide +kernel
theorem dX12_product_133 : decode cX12_product 133 = .ok (.l2i, 1) := by decide +kernel
theorem dX12_product_134 : decode cX12_product 134 = .ok (.ireturn, 1) := by decide +kernel
