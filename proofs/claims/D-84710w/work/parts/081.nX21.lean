/-! names: X2_name X2_isWord X2_isName X2_sign X2_isMain (tools/chunk.py) -/
set_option maxRecDepth 100000
theorem q1002 : (Jvm.Cond.methodLink "CompiledHouse$Tokens" (200 : Nat) ({ cls := "CompiledHouse$Tokens", name := "isWord", desc := "(IILjava/lang/String;)Z" } : Jvm.MethodName)) ∈ lw_all := lw_g (lw_at lw_m4 86 rfl) rfl
abbrev cX2_isWord : ByteArray := prog_35_method_9_code
def yX2_isWord : MethodName := ⟨RX2, "isWord", "(IILjava/lang/String;)Z"⟩
theorem q1005 : (Jvm.Cond.code ({ cls := "CompiledHouse$Tokens", name := "isWord", desc := "(IILjava/lang/String;)Z" } : Jvm.MethodName) prog_35_method_9_code (6 : Nat) (Option.some Jvm.ClassFile.FieldType.boolean)) ∈ lw_all := lw_g (lw_at lw_m4 89 rfl) rfl
def kX2_isWord : xK := (yX2_isWord, cX2_isWord, 6, some .boolean, [])
theorem me_X2_isWord : xMe kX2_isWord 3 := ⟨q1005, q199, by decide, by decide, by decide +kernel⟩
theorem q1004 : (Jvm.Cond.instanceMethod ({ cls := "CompiledHouse$Tokens", name := "isWord", desc := "(IILjava/lang/String;)Z" } : Jvm.MethodName)) ∈ lw_all := lw_g (lw_at lw_m4 88 rfl) rfl
theorem is_X2_isWord : Cond.instanceMethod kX2_isWord.y ∈ lw_all := q1004
theorem se_X2_isWord : Cond.selects RX2 kX2_isWord.y kX2_isWord.y ∈ lw_all := qs7
theorem lk_X2_200 : xLk RX2 200 yX2_isWord := Or.inl q1002
theorem q1054 : (Jvm.Cond.methodLink "CompiledHouse$Tokens" (204 : Nat) ({ cls := "CompiledHouse$Tokens", name := "isName", desc := "(II)Z" } : Jvm.MethodName)) ∈ lw_all := lw_g (lw_at lw_m4 138 rfl) rfl
abbrev cX2_isName : ByteArray := prog_35_method_10_code
def yX2_isName : MethodName := ⟨RX2, "isName", "(II)Z"⟩
theorem q1057 : (Jvm.Cond.code ({ cls := "CompiledHouse$Tokens", name := "isName", desc := "(II)Z" } : Jvm.MethodName) prog_35_method_10_code (5 : Nat) (Option.some Jvm.ClassFile.FieldType.boolean)) ∈ lw_all := lw_g (lw_at lw_m4 141 rfl) rfl
def kX2_isName : xK := (yX2_isName, cX2_isName, 5, some .boolean, [])
theorem me_X2_isName : xMe kX2_isName 2 := ⟨q1057, q199, by decide, by decide, by decide +kernel⟩
theorem q1056 : (Jvm.Cond.instanceMethod ({ cls := "CompiledHouse$Tokens", name := "isName", desc := "(II)Z" } : Jvm.MethodName)) ∈ lw_all := lw_g (lw_at lw_m4 140 rfl) rfl
theorem is_X2_isName : Cond.instanceMethod kX2_isName.y ∈ lw_all := q1056
theorem se_X2_isName : Cond.selects RX2 kX2_isName.y kX2_isName.y ∈ lw_all := qs8
theorem lk_X2_204 : xLk RX2 204 yX2_isName := Or.inl q1054
theorem q1006 : (Jvm.Cond.methodLink "CompiledHouse$Tokens" (208 : Nat) ({ cls := "java/lang/String", name := "length", desc := "()I" } : Jvm.MethodName)) ∈ lw_all := lw_g (lw_at lw_m4 90 rfl) rfl
theorem lk_X2_208 : xLk RX2 208 yJ6_length := Or.inl q1006
theorem q1016 : (Jvm.Cond.methodLink "CompiledHouse$Tokens" (211 : Nat) ({ cls := "java/lang/String", name := "charAt", desc := "(I)C" } : Jvm.MethodName)) ∈ lw_all := lw_g (lw_at lw_m4 100 rfl) rfl
theorem lk_X2_211 : xLk RX2 211 yJ6_charAt := Or.inl q1016
theorem dX2_name_0 : decode cX2_name 0 = .ok (.aload_n 0, 1) := by decide +kernel
theorem dX2_name_1 : decode cX2_name 1 = .ok (.invokevirtual 197, 3) := by decide +kernel
theorem dX2_name_4 : decode cX2_name 4 = .ok (.istore_n 1, 1) := by decide +kernel
theorem dX2_name_5 : decode cX2_name 5 = .ok (.iload_n 1, 1) := by decide +kernel
theorem dX2_name_6 : decode cX2_name 6 = .ok (.bipush 16, 2) := by decide +kernel
theorem dX2_name_8 : decode cX2_name 8 = .ok (.if_icmp .le 5, 3) := by decide +kernel
theorem dX2_name_11 : decode cX2_name 11 = .ok (.iconst 1, 1) := by decide +kernel
theorem dX2_name_12 : decode cX2_name 12 = .ok (.ireturn, 1) := by decide +kernel
theorem dX2_name_13 : decode cX2_name 13 = .ok (.iconst 0, 1) := by decide +kernel
theorem dX2_name_14 : decode cX2_name 14 = .ok (.istore_n 2, 1) := by decide +kernel
theorem dX2_name_15 : decode cX2_name 15 = .ok (.iload_n 2, 1) := by decide +kernel
theorem dX2_name_16 : decode cX2_name 16 = .ok (.aload_n 0, 1) := by decide +kernel
theorem dX2_name_17 : decode cX2_name 17 = .ok (.getfield 41, 3) := by decide +kernel
theorem dX2_name_20 : decode cX2_name 20 = .ok (.arraylength, 1) := by decide +kernel
theorem dX2_name_21 : decode cX2_name 21 = .ok (.if_icmp .ge 45, 3) := by decide +kernel
theorem dX2_name_24 : decode cX2_name 24 = .ok (.aload_n 0, 1) := by decide +kernel
theorem dX2_name_25 : decode cX2_name 25 = .ok (.aload_n 0, 1) := by decide +kernel
theorem dX2_name_26 : decode cX2_name 26 = .ok (.getfield 164, 3) := by decide +kernel
theorem dX2_name_29 : decode cX2_name 29 = .ok (.iload_n 1, 1) := by decide +kernel
theorem dX2_name_30 : decode cX2_name 30 = .ok (.aload_n 0, 1) := by decide +kernel
theorem dX2_name_31 : decode cX2_name 31 = .ok (.getfield 41, 3) := by decide +kernel
theorem dX2_name_34 : decode cX2_name 34 = .ok (.iload_n 2, 1) := by decide +kernel
theorem dX2_name_35 : decode cX2_name 35 = .ok (.aaload, 1) := by decide +kernel
theorem dX2_name_36 : decode cX2_name 36 = .ok (.invokevirtual 200, 3) := by decide +kernel
theorem dX2_name_39 : decode cX2_name 39 = .ok (.ifCond .ne 6, 3) := by decide +kernel
theorem dX2_name_42 : decode cX2_name 42 = .ok (.goto 18, 3) := by decide +kernel
theorem dX2_name_45 : decode cX2_name 45 = .ok (.aload_n 0, 1) := by decide +kernel
theorem dX2_name_46 : decode cX2_name 46 = .ok (.dup, 1) := by decide +kernel
theorem dX2_name_47 : decode cX2_name 47 = .ok (.getfield 164, 3) := by decide +kernel
theorem dX2_name_50 : decode cX2_name 50 = .ok (.iload_n 1, 1) := by decide +kernel
theorem dX2_name_51 : decode cX2_name 51 = .ok (.iadd, 1) := by decide +kernel
theorem dX2_name_52 : decode cX2_name 52 = .ok (.putfield 164, 3) := by decide +kernel
theorem dX2_name_55 : decode cX2_name 55 = .ok (.bipush 10, 2) := by decide +kernel
theorem dX2_name_57 : decode cX2_name 57 = .ok (.iload_n 2, 1) := by decide +kernel
theorem dX2_name_58 : decode cX2_name 58 = .ok (.iadd, 1) := by decide +kernel
theorem dX2_name_59 : decode cX2_name 59 = .ok (.ireturn, 1) := by decide +kernel
theorem dX2_name_60 : decode cX2_name 60 = .ok (.iinc 2 1, 3) := by decide +kernel
theorem dX2_name_63 : decode cX2_name 63 = .ok (.goto (-48), 3) := by decide +kernel
theorem dX2_name_66 : decode cX2_name 66 = .ok (.iconst 0, 1) := by decide +kernel
theorem dX2_name_67 : decode cX2_name 67 = .ok (.istore_n 2, 1) := by decide +kernel
theorem dX2_name_68 : decode cX2_name 68 = .ok (.iload_n 2, 1) := by decide +kernel
theorem dX2_name_69 : decode cX2_name 69 = .ok (.aload_n 0, 1) := by decide +kernel
theorem dX2_name_70 : decode cX2_name 70 = .ok (.getfield 170, 3) := by decide +kernel
theorem dX2_name_73 : decode cX2_name 73 = .ok (.if_icmp .ge 18, 3) := by decide +kernel
theorem dX2_name_76 : decode cX2_name 76 = .ok (.aload_n 0, 1) := by decide +kernel
theorem dX2_name_77 : decode cX2_name 77 = .ok (.iload_n 2, 1) := by decide +kernel
theorem dX2_name_78 : decode cX2_name 78 = .ok (.iload_n 1, 1) := by decide +kernel
theorem dX2_name_79 : decode cX2_name 79 = .ok (.invokevirtual 204, 3) := by decide +kernel
theorem dX2_name_82 : decode cX2_name 82 = .ok (.ifCond .ne 9, 3) := by decide +kernel
theorem dX2_name_85 : decode cX2_name 85 = .ok (.iinc 2 1, 3) := by decide +kernel
theorem dX2_name_88 : decode cX2_name 88 = .ok (.goto (-20), 3) := by decide +kernel
theorem dX2_name_91 : decode cX2_name 91 = .ok (.iload_n 2, 1) := by decide +kernel
theorem dX2_name_92 : decode cX2_name 92 = .ok (.aload_n 0, 1) := by decide +kernel
theorem dX2_name_93 : decode cX2_name 93 = .ok (.getfield 170, 3) := by decide +kernel
theorem dX2_name_96 : decode cX2_name 96 = .ok (.if_icmp .ne 30, 3) := by decide +kernel
theorem dX2_name_99 : decode cX2_name 99 = .ok (.aload_n 0, 1) := by decide +kernel
theorem dX2_name_100 : decode cX2_name 100 = .ok (.getfield 150, 3) := by decide +kernel
theorem dX2_name_103 : decode cX2_name 103 = .ok (.iload_n 2, 1) := by decide +kernel
theorem dX2_name_104 : decode cX2_name 104 = .ok (.aload_n 0, 1) := by decide +kernel
theorem dX2_name_105 : decode cX2_name 105 = .ok (.getfield 164, 3) := by decide +kernel
theorem dX2_name_108 : decode cX2_name 108 = .ok (.iastore, 1) := by decide +kernel
theorem dX2_name_109 : decode cX2_name 109 = .ok (.aload_n 0, 1) := by decide +kernel
theorem dX2_name_110 : decode cX2_name 110 = .ok (.getfield 153, 3) := by decide +kernel
theorem dX2_name_113 : decode cX2_name 113 = .ok (.iload_n 2, 1) := by decide +kernel
theorem dX2_name_114 : decode cX2_name 114 = .ok (.iload_n 1, 1) := by decide +kernel
theorem dX2_name_115 : decode cX2_name 115 = .ok (.iastore, 1) := by decide +kernel
theorem dX2_name_116 : decode cX2_name 116 = .ok (.aload_n 0, 1) := by decide +kernel
theorem dX2_name_117 : decode cX2_name 117 = .ok (.dup, 1) := by decide +kernel
theorem dX2_name_118 : decode cX2_name 118 = .ok (.getfield 170, 3) := by decide +kernel
theorem dX2_name_121 : decode cX2_name 121 = .ok (.iconst 1, 1) := by decide +kernel
theorem dX2_name_122 : decode cX2_name 122 = .ok (.iadd, 1) := by decide +kernel
theorem dX2_name_123 : decode cX2_name 123 = .ok (.putfield 170, 3) := by decide +kernel
theorem dX2_name_126 : decode cX2_name 126 = .ok (.aload_n 0, 1) := by decide +kernel
theorem dX2_name_127 : decode cX2_name 127 = .ok (.getfield 147, 3) := by decide +kernel
theorem dX2_name_130 : decode cX2_name 130 = .ok (.aload_n 0, 1) := by decide +kernel
theorem dX2_name_131 : decode cX2_name 131 = .ok (.getfield 167, 3) := by decide +kernel
theorem dX2_name_134 : decode cX2_name 134 = .ok (.iload_n 2, 1) := by decide +kernel
theorem dX2_name_135 : decode cX2_name 135 = .ok (.iastore, 1) := by decide +kernel
theorem dX2_name_136 : decode cX2_name 136 = .ok (.aload_n 0, 1) := by decide +kernel
theorem dX2_name_137 : decode cX2_name 137 = .ok (.dup, 1) := by decide +kernel
theorem dX2_name_138 : decode cX2_name 138 = .ok (.getfield 164, 3) := by decide +kernel
theorem dX2_name_141 : decode cX2_name 141 = .ok (.iload_n 1, 1) := by decide +kernel
theorem dX2_name_142 : decode cX2_name 142 = .ok (.iadd, 1) := by decide +kernel
theorem dX2_name_143 : decode cX2_name 143 = .ok (.putfield 164, 3) := by decide +kernel
theorem dX2_name_146 : decode cX2_name 146 = .ok (.iconst 2, 1) := by decide +kernel
theorem dX2_name_147 : decode cX2_name 147 = .ok (.ireturn, 1) := by decide +kernel
theorem dX2_isWord_0 : decode cX2_isWord 0 = .ok (.aload_n 3, 1) := by decide +kernel
theorem dX2_isWord_1 : decode cX2_isWord 1 = .ok (.invokevirtual 208, 3) := by decide +kernel
theorem dX2_isWord_4 : decode cX2_isWord 4 = .ok (.iload_n 2, 1) := by decide +kernel
theorem dX2_isWord_5 : decode cX2_isWord 5 = .ok (.if_icmp .ne 7, 3) := by decide +kernel
theorem dX2_isWord_8 : decode cX2_isWord 8 = .ok (.iconst 1, 1) := by decide +kernel
theorem dX2_isWord_9 : decode cX2_isWord 9 = .ok (.goto 4, 3) := by decide +kernel
theorem dX2_isWord_12 : decode cX2_isWord 12 = .ok (.iconst 0, 1) := by decide +kernel
theorem dX2_isWord_13 : decode cX2_isWord 13 = .ok (.istore 4, 2) := by decide +kernel
theorem dX2_isWord_15 : decode cX2_isWord 15 = .ok (.iconst 0, 1) := by decide +kernel
theorem dX2_isWord_16 : decode cX2_isWord 16 = .ok (.istore 5, 2) := by decide +kernel
theorem dX2_isWord_18 : decode cX2_isWord 18 = .ok (.iload 5, 2) := by decide +kernel
theorem dX2_isWord_20 : decode cX2_isWord 20 = .ok (.iload_n 2, 1) := by decide +kernel
theorem dX2_isWord_21 : decode cX2_isWord 21 = .ok (.if_icmp .ge 39, 3) := by decide +kernel
theorem dX2_isWord_24 : decode cX2_isWord 24 = .ok (.iload 4, 2) := by decide +kernel
theorem dX2_isWord_26 : decode cX2_isWord 26 = .ok (.ifCond .eq 34, 3) := by decide +kernel
theorem dX2_isWord_29 : decode cX2_isWord 29 = .ok (.aload_n 0, 1) := by decide +kernel
theorem dX2_isWord_30 : decode cX2_isWord 30 = .ok (.getfield 156, 3) := by decide +kernel
theorem dX2_isWord_33 : decode cX2_isWord 33 = .ok (.iload_n 1, 1) := by decide +kernel
theorem dX2_isWord_34 : decode cX2_isWord 34 = .ok (.iload 5, 2) := by decide +kernel
theorem dX2_isWord_36 : decode cX2_isWord 36 = .ok (.iadd, 1) := by decide +kernel
theorem dX2_isWord_37 : decode cX2_isWord 37 = .ok (.baload, 1) := by decide +kernel
theorem dX2_isWord_38 : decode cX2_isWord 38 = .ok (.aload_n 3, 1) := by decide +kernel
theorem dX2_isWord_39 : decode cX2_isWord 39 = .ok (.iload 5, 2) := by decide +kernel
theorem dX2_isWord_41 : decode cX2_isWord 41 = .ok (.invokevirtual 211, 3) := by decide +kernel
theorem dX2_isWord_44 : decode cX2_isWord 44 = .ok (.if_icmp .ne 7, 3) := by decide +kernel
theorem dX2_isWord_47 : decode cX2_isWord 47 = .ok (.iconst 1, 1) := by decide +kernel
theorem dX2_isWord_48 : decode cX2_isWord 48 = .ok (.goto 4, 3) := by decide +kernel
theorem dX2_isWord_51 : decode cX2_isWord 51 = .ok (.iconst 0, 1) := by decide +kernel
theorem dX2_isWord_52 : decode cX2_isWord 52 = .ok (.istore 4, 2) := by decide +kernel
theorem dX2_isWord_54 : decode cX2_isWord 54 = .ok (.iinc 5 1, 3) := by decide +kernel
theorem dX2_isWord_57 : decode cX2_isWord 57 = .ok (.goto (-39), 3) := by decide +kernel
theorem dX2_isWord_60 : decode cX2_isWord 60 = .ok (.iload 4, 2) := by decide +kernel
theorem dX2_isWord_62 : decode cX2_isWord 62 = .ok (.ireturn, 1) := by decide +kernel
theorem dX2_isName_0 : decode cX2_isName 0 = .ok (.aload_n 0, 1) := by decide +kernel
theorem dX2_isName_1 : decode cX2_isName 1 = .ok (.getfield 153, 3) := by decide +kernel
theorem dX2_isName_4 : decode cX2_isName 4 = .ok (.iload_n 1, 1) := by decide +kernel
theorem dX2_isName_5 : decode cX2_isName 5 = .ok (.iaload, 1) := by decide +kernel
theorem dX2_isName_6 : decode cX2_isName 6 = .ok (.iload_n 2, 1) := by decide +kernel
theorem dX2_isName_7 : decode cX2_isName 7 = .ok (.if_icmp .ne 7, 3) := by decide +kernel
theorem dX2_isName_10 : decode cX2_isName 10 = .ok (.iconst 1, 1) := by decide +kernel
theorem dX2_isName_11 : decode cX2_isName 11 = .ok (.goto 4, 3) := by decide +kernel
theorem dX2_isName_14 : decode cX2_isName 14 = .ok (.iconst 0, 1) := by decide +kernel
theorem dX2_isName_15 : decode cX2_isName 15 = .ok (.istore_n 3, 1) := by decide +kernel
theorem dX2_isName_16 : decode cX2_isName 16 = .ok (.iconst 0, 1) := by decide +kernel
theorem dX2_isName_17 : decode cX2_isName 17 = .ok (.istore 4, 2) := by decide +kernel
theorem dX2_isName_19 : decode cX2_isName 19 = .ok (.iload 4, 2) := by decide +kernel
theorem dX2_isName_21 : decode cX2_isName 21 = .ok (.iload_n 2, 1) := by decide +kernel
theorem dX2_isName_22 : decode cX2_isName 22 = .ok (.if_icmp .ge 48, 3) := by decide +kernel
theorem dX2_isName_25 : decode cX2_isName 25 = .ok (.iload_n 3, 1) := by decide +kernel
theorem dX2_isName_26 : decode cX2_isName 26 = .ok (.ifCond .eq 44, 3) := by decide +kernel
theorem dX2_isName_29 : decode cX2_isName 29 = .ok (.aload_n 0, 1) := by decide +kernel
theorem dX2_isName_30 : decode cX2_isName 30 = .ok (.getfield 156, 3) := by decide +kernel
theorem dX2_isName_33 : decode cX2_isName 33 = .ok (.aload_n 0, 1) := by decide +kernel
theorem dX2_isName_34 : decode cX2_isName 34 = .ok (.getfield 150, 3) := by decide +kernel
theorem dX2_isName_37 : decode cX2_isName 37 = .ok (.iload_n 1, 1) := by decide +kernel
theorem dX2_isName_38 : decode cX2_isName 38 = .ok (.iaload, 1) := by decide +kernel
theorem dX2_isName_39 : decode cX2_isName 39 = .ok (.iload 4, 2) := by decide +kernel
theorem dX2_isName_41 : decode cX2_isName 41 = .ok (.iadd, 1) := by decide +kernel
theorem dX2_isName_42 : decode cX2_isName 42 = .ok (.baload, 1) := by decide +kernel
theorem dX2_isName_43 : decode cX2_isName 43 = .ok (.aload_n 0, 1) := by decide +kernel
theorem dX2_isName_44 : decode cX2_isName 44 = .ok (.getfield 156, 3) := by decide +kernel
theorem dX2_isName_47 : decode cX2_isName 47 = .ok (.aload_n 0, 1) := by decide +kernel
theorem dX2_isName_48 : decode cX2_isName 48 = .ok (.getfield 164, 3) := by decide +kernel
theorem dX2_isName_51 : decode cX2_isName 51 = .ok (.iload 4, 2) := by decide +kernel
theorem dX2_isName_53 : decode cX2_isName 53 = .ok (.iadd, 1) := by decide +kernel
theorem dX2_isName_54 : decode cX2_isName 54 = .ok (.baload, 1) := by decide +kernel
theorem dX2_isName_55 : decode cX2_isName 55 = .ok (.if_icmp .ne 7, 3) := by decide +kernel
theorem dX2_isName_58 : decode cX2_isName 58 = .ok (.iconst 1, 1) := by decide +kernel
theorem dX2_isName_59 : decode cX2_isName 59 = .ok (.goto 4, 3) := by decide +kernel
theorem dX2_isName_62 : decode cX2_isName 62 = .ok (.iconst 0, 1) := by decide +kernel
theorem dX2_isName_63 : decode cX2_isName 63 = .ok (.istore_n 3, 1) := by decide +kernel
theorem dX2_isName_64 : decode cX2_isName 64 = .ok (.iinc 4 1, 3) := by decide +kernel
theorem dX2_isName_67 : decode cX2_isName 67 = .ok (.goto (-48), 3) := by decide +kernel
theorem dX2_isName_70 : decode cX2_isName 70 = .ok (.iload_n 3, 1) := by decide +kernel
theorem dX2_isName_71 : decode cX2_isName 71 = .ok (.ireturn, 1) := by decide +kernel
theorem dX2_sign_0 : decode cX2_sign 0 = .ok (.iconst 0, 1) := by decide +kernel
theorem dX2_sign_1 : decode cX2_sign 1 = .ok (.istore_n 1, 1) := by decide +kernel
theorem dX2_sign_2 : decode cX2_sign 2 = .ok (.iload_n 1, 1) := by decide +kernel
theorem dX2_sign_3 : decode cX2_sign 3 = .ok (.aload_n 0, 1) := by decide +kernel
theorem dX2_sign_4 : decode cX2_sign 4 = .ok (.getfield 137, 3) := by decide +kernel
theorem dX2_sign_7 : decode cX2_sign 7 = .ok (.arraylength, 1) := by decide +kernel
theorem dX2_sign_8 : decode cX2_sign 8 = .ok (.if_icmp .ge 90, 3) := by decide +kernel
theorem dX2_sign_11 : decode cX2_sign 11 = .ok (.iconst 1, 1) := by decide +kernel
theorem dX2_sign_12 : decode cX2_sign 12 = .ok (.istore_n 2, 1) := by decide +kernel
theorem dX2_sign_13 : decode cX2_sign 13 = .ok (.iconst 0, 1) := by decide +kernel
theorem dX2_sign_14 : decode cX2_sign 14 = .ok (.istore_n 3, 1) := by decide +kernel
theorem dX2_sign_15 : decode cX2_sign 15 = .ok (.iload_n 3, 1) := by decide +kernel
theorem dX2_sign_16 : decode cX2_sign 16 = .ok (.aload_n 0, 1) := by decide +kernel
theorem dX2_sign_17 : decode cX2_sign 17 = .ok (.getfield 137, 3) := by decide +kernel
theorem dX2_sign_20 : decode cX2_sign 20 = .ok (.iload_n 1, 1) := by decide +kernel
theorem dX2_sign_21 : decode cX2_sign 21 = .ok (.aaload, 1) := by decide +kernel
theorem dX2_sign_22 : decode cX2_sign 22 = .ok (.invokevirtual 208, 3) := by decide +kernel
theorem dX2_sign_25 : decode cX2_sign 25 = .ok (.if_icmp .ge 37, 3) := by decide +kernel
theorem dX2_sign_28 : decode cX2_sign 28 = .ok (.iload_n 2, 1) := by decide +kernel
theorem dX2_sign_29 : decode cX2_sign 29 = .ok (.ifCond .eq 33, 3) := by decide +kernel
theorem dX2_sign_32 : decode cX2_sign 32 = .ok (.aload_n 0, 1) := by decide +kernel
theorem dX2_sign_33 : decode cX2_sign 33 = .ok (.iload_n 3, 1) := by decide +kernel
theorem dX2_sign_34 : decode cX2_sign 34 = .ok (.invokevirtual 177, 3) := by decide +kernel
theorem dX2_sign_37 : decode cX2_sign 37 = .ok (.aload_n 0, 1) := by decide +kernel
theorem dX2_sign_38 : decode cX2_sign 38 = .ok (.getfield 137, 3) := by decide +kernel
theorem dX2_sign_41 : decode cX2_sign 41 = .ok (.iload_n 1, 1) := by decide +kernel
theorem dX2_sign_42 : decode cX2_sign 42 = .ok (.aaload, 1) := by decide +kernel
theorem dX2_sign_43 : decode cX2_sign 43 = .ok (.iload_n 3, 1) := by decide +kernel
theorem dX2_sign_44 : decode cX2_sign 44 = .ok (.invokevirtual 211, 3) := by decide +kernel
theorem dX2_sign_47 : decode cX2_sign 47 = .ok (.if_icmp .ne 7, 3) := by decide +kernel
theorem dX2_sign_50 : decode cX2_sign 50 = .ok (.iconst 1, 1) := by decide +kernel
theorem dX2_sign_51 : decode cX2_sign 51 = .ok (.goto 4, 3) := by decide +kernel
theorem dX2_sign_54 : decode cX2_sign 54 = .ok (.iconst 0, 1) := by decide +kernel
theorem dX2_sign_55 : decode cX2_sign 55 = .ok (.istore_n 2, 1) := by decide +kernel
theorem dX2_sign_56 : decode cX2_sign 56 = .ok (.iinc 3 1, 3) := by decide +kernel
theorem dX2_sign_59 : decode cX2_sign 59 = .ok (.goto (-44), 3) := by decide +kernel
theorem dX2_sign_62 : decode cX2_sign 62 = .ok (.iload_n 2, 1) := by decide +kernel
theorem dX2_sign_63 : decode cX2_sign 63 = .ok (.ifCond .ne 6, 3) := by decide +kernel
theorem dX2_sign_66 : decode cX2_sign 66 = .ok (.goto 26, 3) := by decide +kernel
theorem dX2_sign_69 : decode cX2_sign 69 = .ok (.aload_n 0, 1) := by decide +kernel
theorem dX2_sign_70 : decode cX2_sign 70 = .ok (.dup, 1) := by decide +kernel
theorem dX2_sign_71 : decode cX2_sign 71 = .ok (.getfield 164, 3) := by decide +kernel
theorem dX2_sign_74 : decode cX2_sign 74 = .ok (.aload_n 0, 1) := by decide +kernel
theorem dX2_sign_75 : decode cX2_sign 75 = .ok (.getfield 137, 3) := by decide +kernel
theorem dX2_sign_78 : decode cX2_sign 78 = .ok (.iload_n 1, 1) := by decide +kernel
theorem dX2_sign_79 : decode cX2_sign 79 = .ok (.aaload, 1) := by decide +kernel
theorem dX2_sign_80 : decode cX2_sign 80 = .ok (.invokevirtual 208, 3) := by decide +kernel
theorem dX2_sign_83 : decode cX2_sign 83 = .ok (.iadd, 1) := by decide +kernel
theorem dX2_sign_84 : decode cX2_sign 84 = .ok (.putfield 164, 3) := by decide +kernel
theorem dX2_sign_87 : decode cX2_sign 87 = .ok (.bipush 40, 2) := by decide +kernel
theorem dX2_sign_89 : decode cX2_sign 89 = .ok (.iload_n 1, 1) := by decide +kernel
theorem dX2_sign_90 : decode cX2_sign 90 = .ok (.iadd, 1) := by decide +kernel
theorem dX2_sign_91 : decode cX2_sign 91 = .ok (.ireturn, 1) := by decide +kernel
theorem dX2_sign_92 : decode cX2_sign 92 = .ok (.iinc 1 1, 3) := by decide +kernel
theorem dX2_sign_95 : decode cX2_sign 95 = .ok (.goto (-93), 3) := by decide +kernel
theorem dX2_sign_98 : decode cX2_sign 98 = .ok (.iconst 1, 1) := by decide +kernel
theorem dX2_sign_99 : decode cX2_sign 99 = .ok (.ireturn, 1) := by decide +kernel
theorem dX2_isMain_0 : decode cX2_isMain 0 = .ok (.aload_n 0, 1) := by decide +kernel
theorem dX2_isMain_1 : decode cX2_isMain 1 = .ok (.aload_n 0, 1) := by decide +kernel
theorem dX2_isMain_2 : decode cX2_isMain 2 = .ok (.getfield 150, 3) := by decide +kernel
theorem dX2_isMain_5 : decode cX2_isMain 5 = .ok (.iload_n 1, 1) := by decide +kernel
theorem dX2_isMain_6 : decode cX2_isMain 6 = .ok (.iaload, 1) := by decide +kernel
theorem dX2_isMain_7 : decode cX2_isMain 7 = .ok (.aload_n 0, 1) := by decide +kernel
theorem dX2_isMain_8 : decode cX2_isMain 8 = .ok (.getfield 153, 3) := by decide +kernel
theorem dX2_isMain_11 : decode cX2_isMain 11 = .ok (.iload_n 1, 1) := by decide +kernel
theorem dX2_isMain_12 : decode cX2_isMain 12 = .ok (.iaload, 1) := by decide +kernel
theorem dX2_isMain_13 : decode cX2_isMain 13 = .ok (.ldc 215, 2) := by decide +kernel
theorem dX2_isMain_15 : decode cX2_isMain 15 = .ok (.invokevirtual 200, 3) := by decide +kernel
theorem dX2_isMain_18 : decode cX2_isMain 18 = .ok (.ireturn, 1) := by decide +kernel
