/-! names: X8_remember X8_load X8_loaded X8_store X8_forget X8_check X8_end (tools/chunk.py) -/
set_option maxRecDepth 100000
theorem q2580 : (Jvm.Cond.methodLink "CompiledHouse$Cleaner" (397 : Nat) ({ cls := "CompiledHouse$Cleaner", name := "loaded", desc := "(ILCompiledHouse$Symbol;III)V" } : Jvm.MethodName)) ∈ lw_all := lw_g (lw_at lw_m10 224 rfl) rfl
abbrev cX8_loaded : ByteArray := prog_10_method_28_code
def yX8_loaded : MethodName := ⟨RX8, "loaded", "(ILCompiledHouse$Symbol;III)V"⟩
theorem q2583 : (Jvm.Cond.code ({ cls := "CompiledHouse$Cleaner", name := "loaded", desc := "(ILCompiledHouse$Symbol;III)V" } : Jvm.MethodName) prog_10_method_28_code (6 : Nat) (Option.none : Option Jvm.ClassFile.FieldType)) ∈ lw_all := lw_g (lw_at lw_m10 227 rfl) rfl
def kX8_loaded : xK := (yX8_loaded, cX8_loaded, 6, none, [])
theorem me_X8_loaded : xMe kX8_loaded 5 := ⟨q2583, q211, by decide, by decide, by decide +kernel⟩
theorem q2582 : (Jvm.Cond.instanceMethod ({ cls := "CompiledHouse$Cleaner", name := "loaded", desc := "(ILCompiledHouse$Symbol;III)V" } : Jvm.MethodName)) ∈ lw_all := lw_g (lw_at lw_m10 226 rfl) rfl
theorem is_X8_loaded : Cond.instanceMethod kX8_loaded.y ∈ lw_all := q2582
theorem se_X8_loaded : Cond.selects RX8 kX8_loaded.y kX8_loaded.y ∈ lw_all := qs73
theorem lk_X8_397 : xLk RX8 397 yX8_loaded := Or.inl q2580
theorem q1932 : (Jvm.Cond.fieldLinkNest "CompiledHouse$Cleaner" (401 : Nat) "CompiledHouse$Act" "c" "J" "CompiledHouse") ∈ lw_tbl := lw_at lw_m8 56 rfl
theorem f_X8_401_35 : xF RX8 401 35 4 := ⟨_, "CompiledHouse$Act", rfl, by decide, Or.inr ⟨_, q1932⟩, Or.inl rfl⟩
theorem q1702 : (Jvm.Cond.fieldLinkNest "CompiledHouse$Cleaner" (404 : Nat) "CompiledHouse$Symbol" "kind" "I" "CompiledHouse") ∈ lw_tbl := lw_at lw_m7 66 rfl
theorem f_X8_404_32 : xF RX8 404 32 1 := ⟨_, "CompiledHouse$Symbol", rfl, by decide, Or.inr ⟨_, q1702⟩, Or.inl rfl⟩
theorem q1711 : (Jvm.Cond.fieldLinkNest "CompiledHouse$Cleaner" (407 : Nat) "CompiledHouse$Symbol" "isByte" "Z" "CompiledHouse") ∈ lw_tbl := lw_at lw_m7 75 rfl
theorem f_X8_407_32 : xF RX8 407 32 3 := ⟨_, "CompiledHouse$Symbol", rfl, by decide, Or.inr ⟨_, q1711⟩, Or.inl rfl⟩
theorem dX8_remember_0 : decode cX8_remember 0 = .ok (.aload_n 0, 1) := by decide +kernel
theorem dX8_remember_1 : decode cX8_remember 1 = .ok (.getfield 251, 3) := by decide +kernel
theorem dX8_remember_4 : decode cX8_remember 4 = .ok (.iconst 1, 1) := by decide +kernel
theorem dX8_remember_5 : decode cX8_remember 5 = .ok (.isub, 1) := by decide +kernel
theorem dX8_remember_6 : decode cX8_remember 6 = .ok (.istore 4, 2) := by decide +kernel
theorem dX8_remember_8 : decode cX8_remember 8 = .ok (.iload 4, 2) := by decide +kernel
theorem dX8_remember_10 : decode cX8_remember 10 = .ok (.ifCond .lt 114, 3) := by decide +kernel
theorem dX8_remember_13 : decode cX8_remember 13 = .ok (.aload_n 0, 1) := by decide +kernel
theorem dX8_remember_14 : decode cX8_remember 14 = .ok (.getfield 276, 3) := by decide +kernel
theorem dX8_remember_17 : decode cX8_remember 17 = .ok (.iload 4, 2) := by decide +kernel
theorem dX8_remember_19 : decode cX8_remember 19 = .ok (.iaload, 1) := by decide +kernel
theorem dX8_remember_20 : decode cX8_remember 20 = .ok (.aload_n 1, 1) := by decide +kernel
theorem dX8_remember_21 : decode cX8_remember 21 = .ok (.getfield 212, 3) := by decide +kernel
theorem dX8_remember_24 : decode cX8_remember 24 = .ok (.if_icmp .ne 94, 3) := by decide +kernel
theorem dX8_remember_27 : decode cX8_remember 27 = .ok (.aload_n 0, 1) := by decide +kernel
theorem dX8_remember_28 : decode cX8_remember 28 = .ok (.getfield 279, 3) := by decide +kernel
theorem dX8_remember_31 : decode cX8_remember 31 = .ok (.iload 4, 2) := by decide +kernel
theorem dX8_remember_33 : decode cX8_remember 33 = .ok (.iaload, 1) := by decide +kernel
theorem dX8_remember_34 : decode cX8_remember 34 = .ok (.iload_n 2, 1) := by decide +kernel
theorem dX8_remember_35 : decode cX8_remember 35 = .ok (.if_icmp .ne 83, 3) := by decide +kernel
theorem dX8_remember_38 : decode cX8_remember 38 = .ok (.aload_n 0, 1) := by decide +kernel
theorem dX8_remember_39 : decode cX8_remember 39 = .ok (.getfield 282, 3) := by decide +kernel
theorem dX8_remember_42 : decode cX8_remember 42 = .ok (.iload 4, 2) := by decide +kernel
theorem dX8_remember_44 : decode cX8_remember 44 = .ok (.iaload, 1) := by decide +kernel
theorem dX8_remember_45 : decode cX8_remember 45 = .ok (.iload_n 3, 1) := by decide +kernel
theorem dX8_remember_46 : decode cX8_remember 46 = .ok (.if_icmp .eq 6, 3) := by decide +kernel
theorem dX8_remember_49 : decode cX8_remember 49 = .ok (.goto 69, 3) := by decide +kernel
theorem dX8_remember_52 : decode cX8_remember 52 = .ok (.aload_n 0, 1) := by decide +kernel
theorem dX8_remember_53 : decode cX8_remember 53 = .ok (.aload_n 0, 1) := by decide +kernel
theorem dX8_remember_54 : decode cX8_remember 54 = .ok (.getfield 49, 3) := by decide +kernel
theorem dX8_remember_57 : decode cX8_remember 57 = .ok (.aload_n 0, 1) := by decide +kernel
theorem dX8_remember_58 : decode cX8_remember 58 = .ok (.getfield 285, 3) := by decide +kernel
theorem dX8_remember_61 : decode cX8_remember 61 = .ok (.iload 4, 2) := by decide +kernel
theorem dX8_remember_63 : decode cX8_remember 63 = .ok (.iaload, 1) := by decide +kernel
theorem dX8_remember_64 : decode cX8_remember 64 = .ok (.iaload, 1) := by decide +kernel
theorem dX8_remember_65 : decode cX8_remember 65 = .ok (.aload_n 0, 1) := by decide +kernel
theorem dX8_remember_66 : decode cX8_remember 66 = .ok (.getfield 285, 3) := by decide +kernel
theorem dX8_remember_69 : decode cX8_remember 69 = .ok (.iload 4, 2) := by decide +kernel
theorem dX8_remember_71 : decode cX8_remember 71 = .ok (.iaload, 1) := by decide +kernel
theorem dX8_remember_72 : decode cX8_remember 72 = .ok (.invokevirtual 318, 3) := by decide +kernel
theorem dX8_remember_75 : decode cX8_remember 75 = .ok (.ifCond .eq 22, 3) := by decide +kernel
theorem dX8_remember_78 : decode cX8_remember 78 = .ok (.aload_n 0, 1) := by decide +kernel
theorem dX8_remember_79 : decode cX8_remember 79 = .ok (.aload_n 1, 1) := by decide +kernel
theorem dX8_remember_80 : decode cX8_remember 80 = .ok (.aload_n 0, 1) := by decide +kernel
theorem dX8_remember_81 : decode cX8_remember 81 = .ok (.getfield 49, 3) := by decide +kernel
theorem dX8_remember_84 : decode cX8_remember 84 = .ok (.aload_n 0, 1) := by decide +kernel
theorem dX8_remember_85 : decode cX8_remember 85 = .ok (.getfield 285, 3) := by decide +kernel
theorem dX8_remember_88 : decode cX8_remember 88 = .ok (.iload 4, 2) := by decide +kernel
theorem dX8_remember_90 : decode cX8_remember 90 = .ok (.iaload, 1) := by decide +kernel
theorem dX8_remember_91 : decode cX8_remember 91 = .ok (.iaload, 1) := by decide +kernel
theorem dX8_remember_92 : decode cX8_remember 92 = .ok (.i2l, 1) := by decide +kernel
theorem dX8_remember_93 : decode cX8_remember 93 = .ok (.invokevirtual 351, 3) := by decide +kernel
theorem dX8_remember_96 : decode cX8_remember 96 = .ok (.return_, 1) := by decide +kernel
theorem dX8_remember_97 : decode cX8_remember 97 = .ok (.aload_n 0, 1) := by decide +kernel
theorem dX8_remember_98 : decode cX8_remember 98 = .ok (.aload_n 1, 1) := by decide +kernel
theorem dX8_remember_99 : decode cX8_remember 99 = .ok (.getfield 209, 3) := by decide +kernel
theorem dX8_remember_102 : decode cX8_remember 102 = .ok (.aload_n 0, 1) := by decide +kernel
theorem dX8_remember_103 : decode cX8_remember 103 = .ok (.getfield 285, 3) := by decide +kernel
theorem dX8_remember_106 : decode cX8_remember 106 = .ok (.iload 4, 2) := by decide +kernel
theorem dX8_remember_108 : decode cX8_remember 108 = .ok (.iaload, 1) := by decide +kernel
theorem dX8_remember_109 : decode cX8_remember 109 = .ok (.invokevirtual 234, 3) := by decide +kernel
theorem dX8_remember_112 : decode cX8_remember 112 = .ok (.aload_n 0, 1) := by decide +kernel
theorem dX8_remember_113 : decode cX8_remember 113 = .ok (.aload_n 1, 1) := by decide +kernel
theorem dX8_remember_114 : decode cX8_remember 114 = .ok (.invokevirtual 339, 3) := by decide +kernel
theorem dX8_remember_117 : decode cX8_remember 117 = .ok (.return_, 1) := by decide +kernel
theorem dX8_remember_118 : decode cX8_remember 118 = .ok (.iinc 4 (-1), 3) := by decide +kernel
theorem dX8_remember_121 : decode cX8_remember 121 = .ok (.goto (-113), 3) := by decide +kernel
theorem dX8_remember_124 : decode cX8_remember 124 = .ok (.aload_n 0, 1) := by decide +kernel
theorem dX8_remember_125 : decode cX8_remember 125 = .ok (.invokevirtual 315, 3) := by decide +kernel
theorem dX8_remember_128 : decode cX8_remember 128 = .ok (.istore 4, 2) := by decide +kernel
theorem dX8_remember_130 : decode cX8_remember 130 = .ok (.aload_n 0, 1) := by decide +kernel
theorem dX8_remember_131 : decode cX8_remember 131 = .ok (.getfield 276, 3) := by decide +kernel
theorem dX8_remember_134 : decode cX8_remember 134 = .ok (.aload_n 0, 1) := by decide +kernel
theorem dX8_remember_135 : decode cX8_remember 135 = .ok (.getfield 251, 3) := by decide +kernel
theorem dX8_remember_138 : decode cX8_remember 138 = .ok (.aload_n 1, 1) := by decide +kernel
theorem dX8_remember_139 : decode cX8_remember 139 = .ok (.getfield 212, 3) := by decide +kernel
theorem dX8_remember_142 : decode cX8_remember 142 = .ok (.iastore, 1) := by decide +kernel
theorem dX8_remember_143 : decode cX8_remember 143 = .ok (.aload_n 0, 1) := by decide +kernel
theorem dX8_remember_144 : decode cX8_remember 144 = .ok (.getfield 279, 3) := by decide +kernel
theorem dX8_remember_147 : decode cX8_remember 147 = .ok (.aload_n 0, 1) := by decide +kernel
theorem dX8_remember_148 : decode cX8_remember 148 = .ok (.getfield 251, 3) := by decide +kernel
theorem dX8_remember_151 : decode cX8_remember 151 = .ok (.iload_n 2, 1) := by decide +kernel
theorem dX8_remember_152 : decode cX8_remember 152 = .ok (.iastore, 1) := by decide +kernel
theorem dX8_remember_153 : decode cX8_remember 153 = .ok (.aload_n 0, 1) := by decide +kernel
theorem dX8_remember_154 : decode cX8_remember 154 = .ok (.getfield 282, 3) := by decide +kernel
theorem dX8_remember_157 : decode cX8_remember 157 = .ok (.aload_n 0, 1) := by decide +kernel
theorem dX8_remember_158 : decode cX8_remember 158 = .ok (.getfield 251, 3) := by decide +kernel
theorem dX8_remember_161 : decode cX8_remember 161 = .ok (.iload_n 3, 1) := by decide +kernel
theorem dX8_remember_162 : decode cX8_remember 162 = .ok (.iastore, 1) := by decide +kernel
theorem dX8_remember_163 : decode cX8_remember 163 = .ok (.aload_n 0, 1) := by decide +kernel
theorem dX8_remember_164 : decode cX8_remember 164 = .ok (.getfield 285, 3) := by decide +kernel
theorem dX8_remember_167 : decode cX8_remember 167 = .ok (.aload_n 0, 1) := by decide +kernel
theorem dX8_remember_168 : decode cX8_remember 168 = .ok (.getfield 251, 3) := by decide +kernel
theorem dX8_remember_171 : decode cX8_remember 171 = .ok (.iload 4, 2) := by decide +kernel
theorem dX8_remember_173 : decode cX8_remember 173 = .ok (.iastore, 1) := by decide +kernel
theorem dX8_remember_174 : decode cX8_remember 174 = .ok (.aload_n 0, 1) := by decide +kernel
theorem dX8_remember_175 : decode cX8_remember 175 = .ok (.dup, 1) := by decide +kernel
theorem dX8_remember_176 : decode cX8_remember 176 = .ok (.getfield 251, 3) := by decide +kernel
theorem dX8_remember_179 : decode cX8_remember 179 = .ok (.iconst 1, 1) := by decide +kernel
theorem dX8_remember_180 : decode cX8_remember 180 = .ok (.iadd, 1) := by decide +kernel
theorem dX8_remember_181 : decode cX8_remember 181 = .ok (.putfield 251, 3) := by decide +kernel
theorem dX8_remember_184 : decode cX8_remember 184 = .ok (.aload_n 0, 1) := by decide +kernel
theorem dX8_remember_185 : decode cX8_remember 185 = .ok (.aload_n 1, 1) := by decide +kernel
theorem dX8_remember_186 : decode cX8_remember 186 = .ok (.getfield 209, 3) := by decide +kernel
theorem dX8_remember_189 : decode cX8_remember 189 = .ok (.iload 4, 2) := by decide +kernel
theorem dX8_remember_191 : decode cX8_remember 191 = .ok (.invokevirtual 234, 3) := by decide +kernel
theorem dX8_remember_194 : decode cX8_remember 194 = .ok (.aload_n 0, 1) := by decide +kernel
theorem dX8_remember_195 : decode cX8_remember 195 = .ok (.aload_n 1, 1) := by decide +kernel
theorem dX8_remember_196 : decode cX8_remember 196 = .ok (.invokevirtual 339, 3) := by decide +kernel
theorem dX8_remember_199 : decode cX8_remember 199 = .ok (.return_, 1) := by decide +kernel
theorem dX8_load_0 : decode cX8_load 0 = .ok (.aload_n 1, 1) := by decide +kernel
theorem dX8_load_1 : decode cX8_load 1 = .ok (.aload_n 0, 1) := by decide +kernel
theorem dX8_load_2 : decode cX8_load 2 = .ok (.aload_n 1, 1) := by decide +kernel
theorem dX8_load_3 : decode cX8_load 3 = .ok (.getfield 213, 3) := by decide +kernel
theorem dX8_load_6 : decode cX8_load 6 = .ok (.invokevirtual 331, 3) := by decide +kernel
theorem dX8_load_9 : decode cX8_load 9 = .ok (.putfield 213, 3) := by decide +kernel
theorem dX8_load_12 : decode cX8_load 12 = .ok (.aload_n 1, 1) := by decide +kernel
theorem dX8_load_13 : decode cX8_load 13 = .ok (.aload_n 0, 1) := by decide +kernel
theorem dX8_load_14 : decode cX8_load 14 = .ok (.aload_n 1, 1) := by decide +kernel
theorem dX8_load_15 : decode cX8_load 15 = .ok (.getfield 218, 3) := by decide +kernel
theorem dX8_load_18 : decode cX8_load 18 = .ok (.invokevirtual 331, 3) := by decide +kernel
theorem dX8_load_21 : decode cX8_load 21 = .ok (.putfield 218, 3) := by decide +kernel
theorem dX8_load_24 : decode cX8_load 24 = .ok (.aload_n 0, 1) := by decide +kernel
theorem dX8_load_25 : decode cX8_load 25 = .ok (.aload_n 1, 1) := by decide +kernel
theorem dX8_load_26 : decode cX8_load 26 = .ok (.getfield 213, 3) := by decide +kernel
theorem dX8_load_29 : decode cX8_load 29 = .ok (.invokevirtual 322, 3) := by decide +kernel
theorem dX8_load_32 : decode cX8_load 32 = .ok (.istore_n 2, 1) := by decide +kernel
theorem dX8_load_33 : decode cX8_load 33 = .ok (.aload_n 0, 1) := by decide +kernel
theorem dX8_load_34 : decode cX8_load 34 = .ok (.aload_n 1, 1) := by decide +kernel
theorem dX8_load_35 : decode cX8_load 35 = .ok (.getfield 218, 3) := by decide +kernel
theorem dX8_load_38 : decode cX8_load 38 = .ok (.invokevirtual 322, 3) := by decide +kernel
theorem dX8_load_41 : decode cX8_load 41 = .ok (.istore_n 3, 1) := by decide +kernel
theorem dX8_load_42 : decode cX8_load 42 = .ok (.aload_n 0, 1) := by decide +kernel
theorem dX8_load_43 : decode cX8_load 43 = .ok (.getfield 254, 3) := by decide +kernel
theorem dX8_load_46 : decode cX8_load 46 = .ok (.iconst 1, 1) := by decide +kernel
theorem dX8_load_47 : decode cX8_load 47 = .ok (.isub, 1) := by decide +kernel
theorem dX8_load_48 : decode cX8_load 48 = .ok (.istore 4, 2) := by decide +kernel
theorem dX8_load_50 : decode cX8_load 50 = .ok (.iload 4, 2) := by decide +kernel
theorem dX8_load_52 : decode cX8_load 52 = .ok (.ifCond .lt 150, 3) := by decide +kernel
theorem dX8_load_55 : decode cX8_load 55 = .ok (.aload_n 0, 1) := by decide +kernel
theorem dX8_load_56 : decode cX8_load 56 = .ok (.getfield 288, 3) := by decide +kernel
theorem dX8_load_59 : decode cX8_load 59 = .ok (.iload 4, 2) := by decide +kernel
theorem dX8_load_61 : decode cX8_load 61 = .ok (.iaload, 1) := by decide +kernel
theorem dX8_load_62 : decode cX8_load 62 = .ok (.aload_n 1, 1) := by decide +kernel
theorem dX8_load_63 : decode cX8_load 63 = .ok (.getfield 212, 3) := by decide +kernel
theorem dX8_load_66 : decode cX8_load 66 = .ok (.if_icmp .ne 130, 3) := by decide +kernel
theorem dX8_load_69 : decode cX8_load 69 = .ok (.aload_n 0, 1) := by decide +kernel
theorem dX8_load_70 : decode cX8_load 70 = .ok (.getfield 302, 3) := by decide +kernel
theorem dX8_load_73 : decode cX8_load 73 = .ok (.iload 4, 2) := by decide +kernel
theorem dX8_load_75 : decode cX8_load 75 = .ok (.aaload, 1) := by decide +kernel
theorem dX8_load_76 : decode cX8_load 76 = .ok (.aload_n 1, 1) := by decide +kernel
theorem dX8_load_77 : decode cX8_load 77 = .ok (.getfield 335, 3) := by decide +kernel
theorem dX8_load_80 : decode cX8_load 80 = .ok (.if_acmp .ne 116, 3) := by decide +kernel
theorem dX8_load_83 : decode cX8_load 83 = .ok (.aload_n 0, 1) := by decide +kernel
theorem dX8_load_84 : decode cX8_load 84 = .ok (.getfield 291, 3) := by decide +kernel
theorem dX8_load_87 : decode cX8_load 87 = .ok (.iload 4, 2) := by decide +kernel
theorem dX8_load_89 : decode cX8_load 89 = .ok (.iaload, 1) := by decide +kernel
theorem dX8_load_90 : decode cX8_load 90 = .ok (.iload_n 2, 1) := by decide +kernel
theorem dX8_load_91 : decode cX8_load 91 = .ok (.if_icmp .ne 105, 3) := by decide +kernel
theorem dX8_load_94 : decode cX8_load 94 = .ok (.aload_n 0, 1) := by decide +kernel
theorem dX8_load_95 : decode cX8_load 95 = .ok (.getfield 294, 3) := by decide +kernel
theorem dX8_load_98 : decode cX8_load 98 = .ok (.iload 4, 2) := by decide +kernel
theorem dX8_load_100 : decode cX8_load 100 = .ok (.iaload, 1) := by decide +kernel
theorem dX8_load_101 : decode cX8_load 101 = .ok (.iload_n 3, 1) := by decide +kernel
theorem dX8_load_102 : decode cX8_load 102 = .ok (.if_icmp .eq 6, 3) := by decide +kernel
theorem dX8_load_105 : decode cX8_load 105 = .ok (.goto 91, 3) := by decide +kernel
theorem dX8_load_108 : decode cX8_load 108 = .ok (.aload_n 0, 1) := by decide +kernel
theorem dX8_load_109 : decode cX8_load 109 = .ok (.getfield 297, 3) := by decide +kernel
theorem dX8_load_112 : decode cX8_load 112 = .ok (.iload 4, 2) := by decide +kernel
theorem dX8_load_114 : decode cX8_load 114 = .ok (.iaload, 1) := by decide +kernel
theorem dX8_load_115 : decode cX8_load 115 = .ok (.istore 5, 2) := by decide +kernel
theorem dX8_load_117 : decode cX8_load 117 = .ok (.aload_n 0, 1) := by decide +kernel
theorem dX8_load_118 : decode cX8_load 118 = .ok (.getfield 272, 3) := by decide +kernel
theorem dX8_load_121 : decode cX8_load 121 = .ok (.iload 5, 2) := by decide +kernel
theorem dX8_load_123 : decode cX8_load 123 = .ok (.baload, 1) := by decide +kernel
theorem dX8_load_124 : decode cX8_load 124 = .ok (.ifCond .ne 19, 3) := by decide +kernel
theorem dX8_load_127 : decode cX8_load 127 = .ok (.aload_n 0, 1) := by decide +kernel
theorem dX8_load_128 : decode cX8_load 128 = .ok (.aload_n 0, 1) := by decide +kernel
theorem dX8_load_129 : decode cX8_load 129 = .ok (.getfield 49, 3) := by decide +kernel
theorem dX8_load_132 : decode cX8_load 132 = .ok (.iload 5, 2) := by decide +kernel
theorem dX8_load_134 : decode cX8_load 134 = .ok (.iaload, 1) := by decide +kernel
theorem dX8_load_135 : decode cX8_load 135 = .ok (.iload 5, 2) := by decide +kernel
theorem dX8_load_137 : decode cX8_load 137 = .ok (.invokevirtual 318, 3) := by decide +kernel
theorem dX8_load_140 : decode cX8_load 140 = .ok (.ifCond .eq 40, 3) := by decide +kernel
theorem dX8_load_143 : decode cX8_load 143 = .ok (.aload_n 0, 1) := by decide +kernel
theorem dX8_load_144 : decode cX8_load 144 = .ok (.aload_n 1, 1) := by decide +kernel
theorem dX8_load_145 : decode cX8_load 145 = .ok (.aload_n 0, 1) := by decide +kernel
theorem dX8_load_146 : decode cX8_load 146 = .ok (.getfield 272, 3) := by decide +kernel
theorem dX8_load_149 : decode cX8_load 149 = .ok (.iload 5, 2) := by decide +kernel
theorem dX8_load_151 : decode cX8_load 151 = .ok (.baload, 1) := by decide +kernel
theorem dX8_load_152 : decode cX8_load 152 = .ok (.ifCond .eq 16, 3) := by decide +kernel
theorem dX8_load_155 : decode cX8_load 155 = .ok (.aload_n 0, 1) := by decide +kernel
theorem dX8_load_156 : decode cX8_load 156 = .ok (.getfield 269, 3) := by decide +kernel
theorem dX8_load_159 : decode cX8_load 159 = .ok (.iload 5, 2) := by decide +kernel
theorem dX8_load_161 : decode cX8_load 161 = .ok (.iaload, 1) := by decide +kernel
theorem dX8_load_162 : decode cX8_load 162 = .ok (.invokestatic 325, 3) := by decide +kernel
theorem dX8_load_165 : decode cX8_load 165 = .ok (.goto 11, 3) := by decide +kernel
theorem dX8_load_168 : decode cX8_load 168 = .ok (.aload_n 0, 1) := by decide +kernel
theorem dX8_load_169 : decode cX8_load 169 = .ok (.getfield 49, 3) := by decide +kernel
theorem dX8_load_172 : decode cX8_load 172 = .ok (.iload 5, 2) := by decide +kernel
theorem dX8_load_174 : decode cX8_load 174 = .ok (.iaload, 1) := by decide +kernel
theorem dX8_load_175 : decode cX8_load 175 = .ok (.i2l, 1) := by decide +kernel
theorem dX8_load_176 : decode cX8_load 176 = .ok (.invokevirtual 351, 3) := by decide +kernel
theorem dX8_load_179 : decode cX8_load 179 = .ok (.return_, 1) := by decide +kernel
theorem dX8_load_180 : decode cX8_load 180 = .ok (.aload_n 0, 1) := by decide +kernel
theorem dX8_load_181 : decode cX8_load 181 = .ok (.aload_n 1, 1) := by decide +kernel
theorem dX8_load_182 : decode cX8_load 182 = .ok (.getfield 209, 3) := by decide +kernel
theorem dX8_load_185 : decode cX8_load 185 = .ok (.iload 5, 2) := by decide +kernel
theorem dX8_load_187 : decode cX8_load 187 = .ok (.invokevirtual 234, 3) := by decide +kernel
theorem dX8_load_190 : decode cX8_load 190 = .ok (.aload_n 0, 1) := by decide +kernel
theorem dX8_load_191 : decode cX8_load 191 = .ok (.aload_n 1, 1) := by decide +kernel
theorem dX8_load_192 : decode cX8_load 192 = .ok (.invokevirtual 339, 3) := by decide +kernel
theorem dX8_load_195 : decode cX8_load 195 = .ok (.return_, 1) := by decide +kernel
theorem dX8_load_196 : decode cX8_load 196 = .ok (.iinc 4 (-1), 3) := by decide +kernel
theorem dX8_load_199 : decode cX8_load 199 = .ok (.goto (-149), 3) := by decide +kernel
theorem dX8_load_202 : decode cX8_load 202 = .ok (.aload_n 0, 1) := by decide +kernel
theorem dX8_load_203 : decode cX8_load 203 = .ok (.invokevirtual 315, 3) := by decide +kernel
theorem dX8_load_206 : decode cX8_load 206 = .ok (.istore 4, 2) := by decide +kernel
theorem dX8_load_208 : decode cX8_load 208 = .ok (.aload_n 0, 1) := by decide +kernel
theorem dX8_load_209 : decode cX8_load 209 = .ok (.aload_n 1, 1) := by decide +kernel
theorem dX8_load_210 : decode cX8_load 210 = .ok (.getfield 212, 3) := by decide +kernel
theorem dX8_load_213 : decode cX8_load 213 = .ok (.aload_n 1, 1) := by decide +kernel
theorem dX8_load_214 : decode cX8_load 214 = .ok (.getfield 335, 3) := by decide +kernel
theorem dX8_load_217 : decode cX8_load 217 = .ok (.iload_n 2, 1) := by decide +kernel
theorem dX8_load_218 : decode cX8_load 218 = .ok (.iload_n 3, 1) := by decide +kernel
theorem dX8_load_219 : decode cX8_load 219 = .ok (.iload 4, 2) := by decide +kernel
theorem dX8_load_221 : decode cX8_load 221 = .ok (.invokevirtual 397, 3) := by decide +kernel
theorem dX8_load_224 : decode cX8_load 224 = .ok (.aload_n 0, 1) := by decide +kernel
theorem dX8_load_225 : decode cX8_load 225 = .ok (.aload_n 1, 1) := by decide +kernel
theorem dX8_load_226 : decode cX8_load 226 = .ok (.getfield 209, 3) := by decide +kernel
theorem dX8_load_229 : decode cX8_load 229 = .ok (.iload 4, 2) := by decide +kernel
theorem dX8_load_231 : decode cX8_load 231 = .ok (.invokevirtual 234, 3) := by decide +kernel
theorem dX8_load_234 : decode cX8_load 234 = .ok (.aload_n 0, 1) := by decide +kernel
theorem dX8_load_235 : decode cX8_load 235 = .ok (.aload_n 1, 1) := by decide +kernel
theorem dX8_load_236 : decode cX8_load 236 = .ok (.invokevirtual 339, 3) := by decide +kernel
theorem dX8_load_239 : decode cX8_load 239 = .ok (.return_, 1) := by decide +kernel
theorem dX8_loaded_0 : decode cX8_loaded 0 = .ok (.aload_n 0, 1) := by decide +kernel
theorem dX8_loaded_1 : decode cX8_loaded 1 = .ok (.getfield 288, 3) := by decide +kernel
theorem dX8_loaded_4 : decode cX8_loaded 4 = .ok (.aload_n 0, 1) := by decide +kernel
theorem dX8_loaded_5 : decode cX8_loaded 5 = .ok (.getfield 254, 3) := by decide +kernel
theorem dX8_loaded_8 : decode cX8_loaded 8 = .ok (.iload_n 1, 1) := by decide +kernel
theorem dX8_loaded_9 : decode cX8_loaded 9 = .ok (.iastore, 1) := by decide +kernel
theorem dX8_loaded_10 : decode cX8_loaded 10 = .ok (.aload_n 0, 1) := by decide +kernel
theorem dX8_loaded_11 : decode cX8_loaded 11 = .ok (.getfield 302, 3) := by decide +kernel
theorem dX8_loaded_14 : decode cX8_loaded 14 = .ok (.aload_n 0, 1) := by decide +kernel
theorem dX8_loaded_15 : decode cX8_loaded 15 = .ok (.getfield 254, 3) := by decide +kernel
theorem dX8_loaded_18 : decode cX8_loaded 18 = .ok (.aload_n 2, 1) := by decide +kernel
theorem dX8_loaded_19 : decode cX8_loaded 19 = .ok (.aastore, 1) := by decide +kernel
theorem dX8_loaded_20 : decode cX8_loaded 20 = .ok (.aload_n 0, 1) := by decide +kernel
theorem dX8_loaded_21 : decode cX8_loaded 21 = .ok (.getfield 291, 3) := by decide +kernel
theorem dX8_loaded_24 : decode cX8_loaded 24 = .ok (.aload_n 0, 1) := by decide +kernel
theorem dX8_loaded_25 : decode cX8_loaded 25 = .ok (.getfield 254, 3) := by decide +kernel
theorem dX8_loaded_28 : decode cX8_loaded 28 = .ok (.iload_n 3, 1) := by decide +kernel
theorem dX8_loaded_29 : decode cX8_loaded 29 = .ok (.iastore, 1) := by decide +kernel
theorem dX8_loaded_30 : decode cX8_loaded 30 = .ok (.aload_n 0, 1) := by decide +kernel
theorem dX8_loaded_31 : decode cX8_loaded 31 = .ok (.getfield 294, 3) := by decide +kernel
theorem dX8_loaded_34 : decode cX8_loaded 34 = .ok (.aload_n 0, 1) := by decide +kernel
theorem dX8_loaded_35 : decode cX8_loaded 35 = .ok (.getfield 254, 3) := by decide +kernel
theorem dX8_loaded_38 : decode cX8_loaded 38 = .ok (.iload 4, 2) := by decide +kernel
theorem dX8_loaded_40 : decode cX8_loaded 40 = .ok (.iastore, 1) := by decide +kernel
theorem dX8_loaded_41 : decode cX8_loaded 41 = .ok (.aload_n 0, 1) := by decide +kernel
theorem dX8_loaded_42 : decode cX8_loaded 42 = .ok (.getfield 297, 3) := by decide +kernel
theorem dX8_loaded_45 : decode cX8_loaded 45 = .ok (.aload_n 0, 1) := by decide +kernel
theorem dX8_loaded_46 : decode cX8_loaded 46 = .ok (.getfield 254, 3) := by decide +kernel
theorem dX8_loaded_49 : decode cX8_loaded 49 = .ok (.iload 5, 2) := by decide +kernel
theorem dX8_loaded_51 : decode cX8_loaded 51 = .ok (.iastore, 1) := by decide +kernel
theorem dX8_loaded_52 : decode cX8_loaded 52 = .ok (.aload_n 0, 1) := by decide +kernel
theorem dX8_loaded_53 : decode cX8_loaded 53 = .ok (.dup, 1) := by decide +kernel
theorem dX8_loaded_54 : decode cX8_loaded 54 = .ok (.getfield 254, 3) := by decide +kernel
theorem dX8_loaded_57 : decode cX8_loaded 57 = .ok (.iconst 1, 1) := by decide +kernel
theorem dX8_loaded_58 : decode cX8_loaded 58 = .ok (.iadd, 1) := by decide +kernel
theorem dX8_loaded_59 : decode cX8_loaded 59 = .ok (.putfield 254, 3) := by decide +kernel
theorem dX8_loaded_62 : decode cX8_loaded 62 = .ok (.return_, 1) := by decide +kernel
theorem dX8_store_0 : decode cX8_store 0 = .ok (.aload_n 1, 1) := by decide +kernel
theorem dX8_store_1 : decode cX8_store 1 = .ok (.aload_n 0, 1) := by decide +kernel
theorem dX8_store_2 : decode cX8_store 2 = .ok (.aload_n 1, 1) := by decide +kernel
theorem dX8_store_3 : decode cX8_store 3 = .ok (.getfield 213, 3) := by decide +kernel
theorem dX8_store_6 : decode cX8_store 6 = .ok (.invokevirtual 331, 3) := by decide +kernel
theorem dX8_store_9 : decode cX8_store 9 = .ok (.putfield 213, 3) := by decide +kernel
theorem dX8_store_12 : decode cX8_store 12 = .ok (.aload_n 1, 1) := by decide +kernel
theorem dX8_store_13 : decode cX8_store 13 = .ok (.aload_n 0, 1) := by decide +kernel
theorem dX8_store_14 : decode cX8_store 14 = .ok (.aload_n 1, 1) := by decide +kernel
theorem dX8_store_15 : decode cX8_store 15 = .ok (.getfield 218, 3) := by decide +kernel
theorem dX8_store_18 : decode cX8_store 18 = .ok (.invokevirtual 331, 3) := by decide +kernel
theorem dX8_store_21 : decode cX8_store 21 = .ok (.putfield 218, 3) := by decide +kernel
theorem dX8_store_24 : decode cX8_store 24 = .ok (.aload_n 1, 1) := by decide +kernel
theorem dX8_store_25 : decode cX8_store 25 = .ok (.aload_n 0, 1) := by decide +kernel
theorem dX8_store_26 : decode cX8_store 26 = .ok (.aload_n 1, 1) := by decide +kernel
theorem dX8_store_27 : decode cX8_store 27 = .ok (.getfield 401, 3) := by decide +kernel
theorem dX8_store_30 : decode cX8_store 30 = .ok (.invokevirtual 331, 3) := by decide +kernel
theorem dX8_store_33 : decode cX8_store 33 = .ok (.putfield 401, 3) := by decide +kernel
theorem dX8_store_36 : decode cX8_store 36 = .ok (.aload_n 0, 1) := by decide +kernel
theorem dX8_store_37 : decode cX8_store 37 = .ok (.aload_n 1, 1) := by decide +kernel
theorem dX8_store_38 : decode cX8_store 38 = .ok (.getfield 335, 3) := by decide +kernel
theorem dX8_store_41 : decode cX8_store 41 = .ok (.iconst 0, 1) := by decide +kernel
theorem dX8_store_42 : decode cX8_store 42 = .ok (.invokevirtual 380, 3) := by decide +kernel
theorem dX8_store_45 : decode cX8_store 45 = .ok (.aload_n 1, 1) := by decide +kernel
theorem dX8_store_46 : decode cX8_store 46 = .ok (.getfield 212, 3) := by decide +kernel
theorem dX8_store_49 : decode cX8_store 49 = .ok (.bipush 23, 2) := by decide +kernel
theorem dX8_store_51 : decode cX8_store 51 = .ok (.if_icmp .ne 37, 3) := by decide +kernel
theorem dX8_store_54 : decode cX8_store 54 = .ok (.aload_n 0, 1) := by decide +kernel
theorem dX8_store_55 : decode cX8_store 55 = .ok (.bipush 21, 2) := by decide +kernel
theorem dX8_store_57 : decode cX8_store 57 = .ok (.aload_n 1, 1) := by decide +kernel
theorem dX8_store_58 : decode cX8_store 58 = .ok (.getfield 335, 3) := by decide +kernel
theorem dX8_store_61 : decode cX8_store 61 = .ok (.aload_n 0, 1) := by decide +kernel
theorem dX8_store_62 : decode cX8_store 62 = .ok (.aload_n 1, 1) := by decide +kernel
theorem dX8_store_63 : decode cX8_store 63 = .ok (.getfield 213, 3) := by decide +kernel
theorem dX8_store_66 : decode cX8_store 66 = .ok (.invokevirtual 322, 3) := by decide +kernel
theorem dX8_store_69 : decode cX8_store 69 = .ok (.aload_n 0, 1) := by decide +kernel
theorem dX8_store_70 : decode cX8_store 70 = .ok (.aload_n 1, 1) := by decide +kernel
theorem dX8_store_71 : decode cX8_store 71 = .ok (.getfield 218, 3) := by decide +kernel
theorem dX8_store_74 : decode cX8_store 74 = .ok (.invokevirtual 322, 3) := by decide +kernel
theorem dX8_store_77 : decode cX8_store 77 = .ok (.aload_n 0, 1) := by decide +kernel
theorem dX8_store_78 : decode cX8_store 78 = .ok (.aload_n 1, 1) := by decide +kernel
theorem dX8_store_79 : decode cX8_store 79 = .ok (.getfield 401, 3) := by decide +kernel
theorem dX8_store_82 : decode cX8_store 82 = .ok (.invokevirtual 322, 3) := by decide +kernel
theorem dX8_store_85 : decode cX8_store 85 = .ok (.invokevirtual 397, 3) := by decide +kernel
theorem dX8_store_88 : decode cX8_store 88 = .ok (.aload_n 0, 1) := by decide +kernel
theorem dX8_store_89 : decode cX8_store 89 = .ok (.aload_n 1, 1) := by decide +kernel
theorem dX8_store_90 : decode cX8_store 90 = .ok (.invokevirtual 339, 3) := by decide +kernel
theorem dX8_store_93 : decode cX8_store 93 = .ok (.return_, 1) := by decide +kernel
theorem dX8_forget_0 : decode cX8_forget 0 = .ok (.iconst 0, 1) := by decide +kernel
theorem dX8_forget_1 : decode cX8_forget 1 = .ok (.istore_n 3, 1) := by decide +kernel
theorem dX8_forget_2 : decode cX8_forget 2 = .ok (.iconst 0, 1) := by decide +kernel
theorem dX8_forget_3 : decode cX8_forget 3 = .ok (.istore 4, 2) := by decide +kernel
theorem dX8_forget_5 : decode cX8_forget 5 = .ok (.iload 4, 2) := by decide +kernel
theorem dX8_forget_7 : decode cX8_forget 7 = .ok (.aload_n 0, 1) := by decide +kernel
theorem dX8_forget_8 : decode cX8_forget 8 = .ok (.getfield 254, 3) := by decide +kernel
theorem dX8_forget_11 : decode cX8_forget 11 = .ok (.if_icmp .ge 181, 3) := by decide +kernel
theorem dX8_forget_14 : decode cX8_forget 14 = .ok (.aload_n 0, 1) := by decide +kernel
theorem dX8_forget_15 : decode cX8_forget 15 = .ok (.getfield 302, 3) := by decide +kernel
theorem dX8_forget_18 : decode cX8_forget 18 = .ok (.iload 4, 2) := by decide +kernel
theorem dX8_forget_20 : decode cX8_forget 20 = .ok (.aaload, 1) := by decide +kernel
theorem dX8_forget_21 : decode cX8_forget 21 = .ok (.astore 5, 2) := by decide +kernel
theorem dX8_forget_23 : decode cX8_forget 23 = .ok (.aload_n 1, 1) := by decide +kernel
theorem dX8_forget_24 : decode cX8_forget 24 = .ok (.ifnonnull 24, 3) := by decide +kernel
theorem dX8_forget_27 : decode cX8_forget 27 = .ok (.aload 5, 2) := by decide +kernel
theorem dX8_forget_29 : decode cX8_forget 29 = .ok (.getfield 404, 3) := by decide +kernel
theorem dX8_forget_32 : decode cX8_forget 32 = .ok (.iconst 4, 1) := by decide +kernel
theorem dX8_forget_33 : decode cX8_forget 33 = .ok (.if_icmp .ne 7, 3) := by decide +kernel
theorem dX8_forget_36 : decode cX8_forget 36 = .ok (.iload_n 2, 1) := by decide +kernel
theorem dX8_forget_37 : decode cX8_forget 37 = .ok (.ifCond .eq 7, 3) := by decide +kernel
theorem dX8_forget_40 : decode cX8_forget 40 = .ok (.iconst 1, 1) := by decide +kernel
theorem dX8_forget_41 : decode cX8_forget 41 = .ok (.goto 72, 3) := by decide +kernel
theorem dX8_forget_44 : decode cX8_forget 44 = .ok (.iconst 0, 1) := by decide +kernel
theorem dX8_forget_45 : decode cX8_forget 45 = .ok (.goto 68, 3) := by decide +kernel
theorem dX8_forget_48 : decode cX8_forget 48 = .ok (.aload 5, 2) := by decide +kernel
theorem dX8_forget_50 : decode cX8_forget 50 = .ok (.aload_n 1, 1) := by decide +kernel
theorem dX8_forget_51 : decode cX8_forget 51 = .ok (.if_acmp .eq 57, 3) := by decide +kernel
theorem dX8_forget_54 : decode cX8_forget 54 = .ok (.aload 5, 2) := by decide +kernel
theorem dX8_forget_56 : decode cX8_forget 56 = .ok (.getfield 407, 3) := by decide +kernel
theorem dX8_forget_59 : decode cX8_forget 59 = .ok (.aload_n 1, 1) := by decide +kernel
theorem dX8_forget_60 : decode cX8_forget 60 = .ok (.getfield 407, 3) := by decide +kernel
theorem dX8_forget_63 : decode cX8_forget 63 = .ok (.if_icmp .ne 49, 3) := by decide +kernel
theorem dX8_forget_66 : decode cX8_forget 66 = .ok (.aload 5, 2) := by decide +kernel
theorem dX8_forget_68 : decode cX8_forget 68 = .ok (.getfield 404, 3) := by decide +kernel
theorem dX8_forget_71 : decode cX8_forget 71 = .ok (.iconst 5, 1) := by decide +kernel
theorem dX8_forget_72 : decode cX8_forget 72 = .ok (.if_icmp .ne 19, 3) := by decide +kernel
theorem dX8_forget_75 : decode cX8_forget 75 = .ok (.aload_n 1, 1) := by decide +kernel
theorem dX8_forget_76 : decode cX8_forget 76 = .ok (.getfield 404, 3) := by decide +kernel
theorem dX8_forget_79 : decode cX8_forget 79 = .ok (.iconst 5, 1) := by decide +kernel
theorem dX8_forget_80 : decode cX8_forget 80 = .ok (.if_icmp .eq 28, 3) := by decide +kernel
theorem dX8_forget_83 : decode cX8_forget 83 = .ok (.aload_n 1, 1) := by decide +kernel
theorem dX8_forget_84 : decode cX8_forget 84 = .ok (.getfield 404, 3) := by decide +kernel
theorem dX8_forget_87 : decode cX8_forget 87 = .ok (.iconst 2, 1) := by decide +kernel
theorem dX8_forget_88 : decode cX8_forget 88 = .ok (.if_icmp .eq 20, 3) := by decide +kernel
theorem dX8_forget_91 : decode cX8_forget 91 = .ok (.aload 5, 2) := by decide +kernel
theorem dX8_forget_93 : decode cX8_forget 93 = .ok (.getfield 404, 3) := by decide +kernel
theorem dX8_forget_96 : decode cX8_forget 96 = .ok (.iconst 2, 1) := by decide +kernel
theorem dX8_forget_97 : decode cX8_forget 97 = .ok (.if_icmp .ne 15, 3) := by decide +kernel
theorem dX8_forget_100 : decode cX8_forget 100 = .ok (.aload_n 1, 1) := by decide +kernel
theorem dX8_forget_101 : decode cX8_forget 101 = .ok (.getfield 404, 3) := by decide +kernel
theorem dX8_forget_104 : decode cX8_forget 104 = .ok (.iconst 5, 1) := by decide +kernel
theorem dX8_forget_105 : decode cX8_forget 105 = .ok (.if_icmp .ne 7, 3) := by decide +kernel
theorem dX8_forget_108 : decode cX8_forget 108 = .ok (.iconst 1, 1) := by decide +kernel
theorem dX8_forget_109 : decode cX8_forget 109 = .ok (.goto 4, 3) := by decide +kernel
theorem dX8_forget_112 : decode cX8_forget 112 = .ok (.iconst 0, 1) := by decide +kernel
theorem dX8_forget_113 : decode cX8_forget 113 = .ok (.istore 6, 2) := by decide +kernel
theorem dX8_forget_115 : decode cX8_forget 115 = .ok (.iload 6, 2) := by decide +kernel
theorem dX8_forget_117 : decode cX8_forget 117 = .ok (.ifCond .eq 6, 3) := by decide +kernel
theorem dX8_forget_120 : decode cX8_forget 120 = .ok (.goto 66, 3) := by decide +kernel
theorem dX8_forget_123 : decode cX8_forget 123 = .ok (.aload_n 0, 1) := by decide +kernel
theorem dX8_forget_124 : decode cX8_forget 124 = .ok (.getfield 288, 3) := by decide +kernel
theorem dX8_forget_127 : decode cX8_forget 127 = .ok (.iload_n 3, 1) := by decide +kernel
theorem dX8_forget_128 : decode cX8_forget 128 = .ok (.aload_n 0, 1) := by decide +kernel
theorem dX8_forget_129 : decode cX8_forget 129 = .ok (.getfield 288, 3) := by decide +kernel
theorem dX8_forget_132 : decode cX8_forget 132 = .ok (.iload 4, 2) := by decide +kernel
theorem dX8_forget_134 : decode cX8_forget 134 = .ok (.iaload, 1) := by decide +kernel
theorem dX8_forget_135 : decode cX8_forget 135 = .ok (.iastore, 1) := by decide +kernel
theorem dX8_forget_136 : decode cX8_forget 136 = .ok (.aload_n 0, 1) := by decide +kernel
theorem dX8_forget_137 : decode cX8_forget 137 = .ok (.getfield 302, 3) := by decide +kernel
theorem dX8_forget_140 : decode cX8_forget 140 = .ok (.iload_n 3, 1) := by decide +kernel
theorem dX8_forget_141 : decode cX8_forget 141 = .ok (.aload 5, 2) := by decide +kernel
theorem dX8_forget_143 : decode cX8_forget 143 = .ok (.aastore, 1) := by decide +kernel
theorem dX8_forget_144 : decode cX8_forget 144 = .ok (.aload_n 0, 1) := by decide +kernel
theorem dX8_forget_145 : decode cX8_forget 145 = .ok (.getfield 291, 3) := by decide +kernel
theorem dX8_forget_148 : decode cX8_forget 148 = .ok (.iload_n 3, 1) := by decide +kernel
theorem dX8_forget_149 : decode cX8_forget 149 = .ok (.aload_n 0, 1) := by decide +kernel
theorem dX8_forget_150 : decode cX8_forget 150 = .ok (.getfield 291, 3) := by decide +kernel
theorem dX8_forget_153 : decode cX8_forget 153 = .ok (.iload 4, 2) := by decide +kernel
theorem dX8_forget_155 : decode cX8_forget 155 = .ok (.iaload, 1) := by decide +kernel
theorem dX8_forget_156 : decode cX8_forget 156 = .ok (.iastore, 1) := by decide +kernel
theorem dX8_forget_157 : decode cX8_forget 157 = .ok (.aload_n 0, 1) := by decide +kernel
theorem dX8_forget_158 : decode cX8_forget 158 = .ok (.getfield 294, 3) := by decide +kernel
theorem dX8_forget_161 : decode cX8_forget 161 = .ok (.iload_n 3, 1) := by decide +kernel
theorem dX8_forget_162 : decode cX8_forget 162 = .ok (.aload_n 0, 1) := by decide +kernel
theorem dX8_forget_163 : decode cX8_forget 163 = .ok (.getfield 294, 3) := by decide +kernel
theorem dX8_forget_166 : decode cX8_forget 166 = .ok (.iload 4, 2) := by decide +kernel
theorem dX8_forget_168 : decode cX8_forget 168 = .ok (.iaload, 1) := by decide +kernel
theorem dX8_forget_169 : decode cX8_forget 169 = .ok (.iastore, 1) := by decide +kernel
theorem dX8_forget_170 : decode cX8_forget 170 = .ok (.aload_n 0, 1) := by decide +kernel
theorem dX8_forget_171 : decode cX8_forget 171 = .ok (.getfield 297, 3) := by decide +kernel
theorem dX8_forget_174 : decode cX8_forget 174 = .ok (.iload_n 3, 1) := by decide +kernel
theorem dX8_forget_175 : decode cX8_forget 175 = .ok (.aload_n 0, 1) := by decide +kernel
theorem dX8_forget_176 : decode cX8_forget 176 = .ok (.getfield 297, 3) := by decide +kernel
theorem dX8_forget_179 : decode cX8_forget 179 = .ok (.iload 4, 2) := by decide +kernel
theorem dX8_forget_181 : decode cX8_forget 181 = .ok (.iaload, 1) := by decide +kernel
theorem dX8_forget_182 : decode cX8_forget 182 = .ok (.iastore, 1) := by decide +kernel
theorem dX8_forget_183 : decode cX8_forget 183 = .ok (.iinc 3 1, 3) := by decide +kernel
theorem dX8_forget_186 : decode cX8_forget 186 = .ok (.iinc 4 1, 3) := by decide +kernel
theorem dX8_forget_189 : decode cX8_forget 189 = .ok (.goto (-184), 3) := by decide +kernel
theorem dX8_forget_192 : decode cX8_forget 192 = .ok (.aload_n 0, 1) := by decide +kernel
theorem dX8_forget_193 : decode cX8_forget 193 = .ok (.iload_n 3, 1) := by decide +kernel
theorem dX8_forget_194 : decode cX8_forget 194 = .ok (.putfield 254, 3) := by decide +kernel
theorem dX8_forget_197 : decode cX8_forget 197 = .ok (.return_, 1) := by decide +kernel
theorem dX8_check_0 : decode cX8_check 0 = .ok (.aload_n 1, 1) := by decide +kernel
theorem dX8_check_1 : decode cX8_check 1 = .ok (.aload_n 0, 1) := by decide +kernel
theorem dX8_check_2 : decode cX8_check 2 = .ok (.aload_n 1, 1) := by decide +kernel
theorem dX8_check_3 : decode cX8_check 3 = .ok (.getfield 213, 3) := by decide +kernel
theorem dX8_check_6 : decode cX8_check 6 = .ok (.invokevirtual 331, 3) := by decide +kernel
theorem dX8_check_9 : decode cX8_check 9 = .ok (.putfield 213, 3) := by decide +kernel
theorem dX8_check_12 : decode cX8_check 12 = .ok (.aload_n 1, 1) := by decide +kernel
theorem dX8_check_13 : decode cX8_check 13 = .ok (.aload_n 0, 1) := by decide +kernel
theorem dX8_check_14 : decode cX8_check 14 = .ok (.aload_n 1, 1) := by decide +kernel
theorem dX8_check_15 : decode cX8_check 15 = .ok (.getfield 218, 3) := by decide +kernel
theorem dX8_check_18 : decode cX8_check 18 = .ok (.invokevirtual 331, 3) := by decide +kernel
theorem dX8_check_21 : decode cX8_check 21 = .ok (.putfield 218, 3) := by decide +kernel
theorem dX8_check_24 : decode cX8_check 24 = .ok (.aload_n 1, 1) := by decide +kernel
theorem dX8_check_25 : decode cX8_check 25 = .ok (.getfield 213, 3) := by decide +kernel
theorem dX8_check_28 : decode cX8_check 28 = .ok (.invokestatic 205, 3) := by decide +kernel
theorem dX8_check_31 : decode cX8_check 31 = .ok (.ifCond .eq 35, 3) := by decide +kernel
theorem dX8_check_34 : decode cX8_check 34 = .ok (.aload_n 1, 1) := by decide +kernel
theorem dX8_check_35 : decode cX8_check 35 = .ok (.getfield 218, 3) := by decide +kernel
theorem dX8_check_38 : decode cX8_check 38 = .ok (.invokestatic 205, 3) := by decide +kernel
theorem dX8_check_41 : decode cX8_check 41 = .ok (.ifCond .eq 25, 3) := by decide +kernel
theorem dX8_check_44 : decode cX8_check 44 = .ok (.aload_n 1, 1) := by decide +kernel
theorem dX8_check_45 : decode cX8_check 45 = .ok (.getfield 213, 3) := by decide +kernel
theorem dX8_check_48 : decode cX8_check 48 = .ok (.l2i, 1) := by decide +kernel
theorem dX8_check_49 : decode cX8_check 49 = .ok (.ifCond .lt 17, 3) := by decide +kernel
theorem dX8_check_52 : decode cX8_check 52 = .ok (.aload_n 1, 1) := by decide +kernel
theorem dX8_check_53 : decode cX8_check 53 = .ok (.getfield 213, 3) := by decide +kernel
theorem dX8_check_56 : decode cX8_check 56 = .ok (.l2i, 1) := by decide +kernel
theorem dX8_check_57 : decode cX8_check 57 = .ok (.aload_n 1, 1) := by decide +kernel
theorem dX8_check_58 : decode cX8_check 58 = .ok (.getfield 218, 3) := by decide +kernel
theorem dX8_check_61 : decode cX8_check 61 = .ok (.l2i, 1) := by decide +kernel
theorem dX8_check_62 : decode cX8_check 62 = .ok (.if_icmp .ge 4, 3) := by decide +kernel
theorem dX8_check_65 : decode cX8_check 65 = .ok (.return_, 1) := by decide +kernel
theorem dX8_check_66 : decode cX8_check 66 = .ok (.aload_n 0, 1) := by decide +kernel
theorem dX8_check_67 : decode cX8_check 67 = .ok (.aload_n 1, 1) := by decide +kernel
theorem dX8_check_68 : decode cX8_check 68 = .ok (.getfield 213, 3) := by decide +kernel
theorem dX8_check_71 : decode cX8_check 71 = .ok (.invokevirtual 322, 3) := by decide +kernel
theorem dX8_check_74 : decode cX8_check 74 = .ok (.istore_n 2, 1) := by decide +kernel
theorem dX8_check_75 : decode cX8_check 75 = .ok (.aload_n 0, 1) := by decide +kernel
theorem dX8_check_76 : decode cX8_check 76 = .ok (.aload_n 1, 1) := by decide +kernel
theorem dX8_check_77 : decode cX8_check 77 = .ok (.getfield 218, 3) := by decide +kernel
theorem dX8_check_80 : decode cX8_check 80 = .ok (.invokevirtual 322, 3) := by decide +kernel
theorem dX8_check_83 : decode cX8_check 83 = .ok (.istore_n 3, 1) := by decide +kernel
theorem dX8_check_84 : decode cX8_check 84 = .ok (.iconst 0, 1) := by decide +kernel
theorem dX8_check_85 : decode cX8_check 85 = .ok (.istore 4, 2) := by decide +kernel
theorem dX8_check_87 : decode cX8_check 87 = .ok (.iload 4, 2) := by decide +kernel
theorem dX8_check_89 : decode cX8_check 89 = .ok (.aload_n 0, 1) := by decide +kernel
theorem dX8_check_90 : decode cX8_check 90 = .ok (.getfield 257, 3) := by decide +kernel
theorem dX8_check_93 : decode cX8_check 93 = .ok (.if_icmp .ge 32, 3) := by decide +kernel
theorem dX8_check_96 : decode cX8_check 96 = .ok (.aload_n 0, 1) := by decide +kernel
theorem dX8_check_97 : decode cX8_check 97 = .ok (.getfield 306, 3) := by decide +kernel
theorem dX8_check_100 : decode cX8_check 100 = .ok (.iload 4, 2) := by decide +kernel
theorem dX8_check_102 : decode cX8_check 102 = .ok (.iaload, 1) := by decide +kernel
theorem dX8_check_103 : decode cX8_check 103 = .ok (.iload_n 2, 1) := by decide +kernel
theorem dX8_check_104 : decode cX8_check 104 = .ok (.if_icmp .ne 15, 3) := by decide +kernel
theorem dX8_check_107 : decode cX8_check 107 = .ok (.aload_n 0, 1) := by decide +kernel
theorem dX8_check_108 : decode cX8_check 108 = .ok (.getfield 309, 3) := by decide +kernel
theorem dX8_check_111 : decode cX8_check 111 = .ok (.iload 4, 2) := by decide +kernel
theorem dX8_check_113 : decode cX8_check 113 = .ok (.iaload, 1) := by decide +kernel
theorem dX8_check_114 : decode cX8_check 114 = .ok (.iload_n 3, 1) := by decide +kernel
theorem dX8_check_115 : decode cX8_check 115 = .ok (.if_icmp .ne 4, 3) := by decide +kernel
theorem dX8_check_118 : decode cX8_check 118 = .ok (.return_, 1) := by decide +kernel
theorem dX8_check_119 : decode cX8_check 119 = .ok (.iinc 4 1, 3) := by decide +kernel
theorem dX8_check_122 : decode cX8_check 122 = .ok (.goto (-35), 3) := by decide +kernel
theorem dX8_check_125 : decode cX8_check 125 = .ok (.aload_n 0, 1) := by decide +kernel
theorem dX8_check_126 : decode cX8_check 126 = .ok (.getfield 306, 3) := by decide +kernel
theorem dX8_check_129 : decode cX8_check 129 = .ok (.aload_n 0, 1) := by decide +kernel
theorem dX8_check_130 : decode cX8_check 130 = .ok (.getfield 257, 3) := by decide +kernel
theorem dX8_check_133 : decode cX8_check 133 = .ok (.iload_n 2, 1) := by decide +kernel
theorem dX8_check_134 : decode cX8_check 134 = .ok (.iastore, 1) := by decide +kernel
theorem dX8_check_135 : decode cX8_check 135 = .ok (.aload_n 0, 1) := by decide +kernel
theorem dX8_check_136 : decode cX8_check 136 = .ok (.getfield 309, 3) := by decide +kernel
theorem dX8_check_139 : decode cX8_check 139 = .ok (.aload_n 0, 1) := by decide +kernel
theorem dX8_check_140 : decode cX8_check 140 = .ok (.getfield 257, 3) := by decide +kernel
theorem dX8_check_143 : decode cX8_check 143 = .ok (.iload_n 3, 1) := by decide +kernel
theorem dX8_check_144 : decode cX8_check 144 = .ok (.iastore, 1) := by decide +kernel
theorem dX8_check_145 : decode cX8_check 145 = .ok (.aload_n 0, 1) := by decide +kernel
theorem dX8_check_146 : decode cX8_check 146 = .ok (.dup, 1) := by decide +kernel
theorem dX8_check_147 : decode cX8_check 147 = .ok (.getfield 257, 3) := by decide +kernel
theorem dX8_check_150 : decode cX8_check 150 = .ok (.iconst 1, 1) := by decide +kernel
theorem dX8_check_151 : decode cX8_check 151 = .ok (.iadd, 1) := by decide +kernel
theorem dX8_check_152 : decode cX8_check 152 = .ok (.putfield 257, 3) := by decide +kernel
theorem dX8_check_155 : decode cX8_check 155 = .ok (.aload_n 0, 1) := by decide +kernel
theorem dX8_check_156 : decode cX8_check 156 = .ok (.aload_n 1, 1) := by decide +kernel
theorem dX8_check_157 : decode cX8_check 157 = .ok (.invokevirtual 339, 3) := by decide +kernel
theorem dX8_check_160 : decode cX8_check 160 = .ok (.return_, 1) := by decide +kernel
theorem dX8_end_0 : decode cX8_end 0 = .ok (.aload_n 1, 1) := by decide +kernel
theorem dX8_end_1 : decode cX8_end 1 = .ok (.getfield 124, 3) := by decide +kernel
theorem dX8_end_4 : decode cX8_end 4 = .ok (.iconst 3, 1) := by decide +kernel
theorem dX8_end_5 : decode cX8_end 5 = .ok (.if_icmp .ne 15, 3) := by decide +kernel
theorem dX8_end_8 : decode cX8_end 8 = .ok (.aload_n 1, 1) := by decide +kernel
theorem dX8_end_9 : decode cX8_end 9 = .ok (.aload_n 0, 1) := by decide +kernel
theorem dX8_end_10 : decode cX8_end 10 = .ok (.aload_n 1, 1) := by decide +kernel
theorem dX8_end_11 : decode cX8_end 11 = .ok (.getfield 165, 3) := by decide +kernel
theorem dX8_end_14 : decode cX8_end 14 = .ok (.invokevirtual 331, 3) := by decide +kernel
theorem dX8_end_17 : decode cX8_end 17 = .ok (.putfield 165, 3) := by decide +kernel
theorem dX8_end_20 : decode cX8_end 20 = .ok (.aload_n 1, 1) := by decide +kernel
theorem dX8_end_21 : decode cX8_end 21 = .ok (.getfield 124, 3) := by decide +kernel
theorem dX8_end_24 : decode cX8_end 24 = .ok (.iconst 2, 1) := by decide +kernel
theorem dX8_end_25 : decode cX8_end 25 = .ok (.if_icmp .eq 4, 3) := by decide +kernel
theorem dX8_end_28 : decode cX8_end 28 = .ok (.return_, 1) := by decide +kernel
theorem dX8_end_29 : decode cX8_end 29 = .ok (.aload_n 1, 1) := by decide +kernel
theorem dX8_end_30 : decode cX8_end 30 = .ok (.aload_n 0, 1) := by decide +kernel
theorem dX8_end_31 : decode cX8_end 31 = .ok (.aload_n 1, 1) := by decide +kernel
theorem dX8_end_32 : decode cX8_end 32 = .ok (.getfield 165, 3) := by decide +kernel
theorem dX8_end_35 : decode cX8_end 35 = .ok (.invokevirtual 331, 3) := by decide +kernel
theorem dX8_end_38 : decode cX8_end 38 = .ok (.putfield 165, 3) := by decide +kernel
theorem dX8_end_41 : decode cX8_end 41 = .ok (.aload_n 1, 1) := by decide +kernel
theorem dX8_end_42 : decode cX8_end 42 = .ok (.aload_n 0, 1) := by decide +kernel
theorem dX8_end_43 : decode cX8_end 43 = .ok (.aload_n 1, 1) := by decide +kernel
theorem dX8_end_44 : decode cX8_end 44 = .ok (.getfield 169, 3) := by decide +kernel
theorem dX8_end_47 : decode cX8_end 47 = .ok (.invokevirtual 331, 3) := by decide +kernel
theorem dX8_end_50 : decode cX8_end 50 = .ok (.putfield 169, 3) := by decide +kernel
theorem dX8_end_53 : decode cX8_end 53 = .ok (.aload_n 1, 1) := by decide +kernel
theorem dX8_end_54 : decode cX8_end 54 = .ok (.getfield 165, 3) := by decide +kernel
theorem dX8_end_57 : decode cX8_end 57 = .ok (.invokestatic 205, 3) := by decide +kernel
theorem dX8_end_60 : decode cX8_end 60 = .ok (.ifCond .eq 45, 3) := by decide +kernel
theorem dX8_end_63 : decode cX8_end 63 = .ok (.aload_n 1, 1) := by decide +kernel
theorem dX8_end_64 : decode cX8_end 64 = .ok (.getfield 169, 3) := by decide +kernel
theorem dX8_end_67 : decode cX8_end 67 = .ok (.invokestatic 205, 3) := by decide +kernel
theorem dX8_end_70 : decode cX8_end 70 = .ok (.ifCond .eq 35, 3) := by decide +kernel
theorem dX8_end_73 : decode cX8_end 73 = .ok (.aload_n 1, 1) := by decide +kernel
theorem dX8_end_74 : decode cX8_end 74 = .ok (.aload_n 1, 1) := by decide +kernel
theorem dX8_end_75 : decode cX8_end 75 = .ok (.getfield 162, 3) := by decide +kernel
theorem dX8_end_78 : decode cX8_end 78 = .ok (.aload_n 1, 1) := by decide +kernel
theorem dX8_end_79 : decode cX8_end 79 = .ok (.getfield 165, 3) := by decide +kernel
theorem dX8_end_82 : decode cX8_end 82 = .ok (.l2i, 1) := by decide +kernel
theorem dX8_end_83 : decode cX8_end 83 = .ok (.aload_n 1, 1) := by decide +kernel
theorem dX8_end_84 : decode cX8_end 84 = .ok (.getfield 169, 3) := by decide +kernel
theorem dX8_end_87 : decode cX8_end 87 = .ok (.l2i, 1) := by decide +kernel
theorem dX8_end_88 : decode cX8_end 88 = .ok (.invokestatic 201, 3) := by decide +kernel
theorem dX8_end_91 : decode cX8_end 91 = .ok (.ifCond .eq 7, 3) := by decide +kernel
theorem dX8_end_94 : decode cX8_end 94 = .ok (.iconst 1, 1) := by decide +kernel
theorem dX8_end_95 : decode cX8_end 95 = .ok (.goto 4, 3) := by decide +kernel
theorem dX8_end_98 : decode cX8_end 98 = .ok (.iconst 0, 1) := by decide +kernel
theorem dX8_end_99 : decode cX8_end 99 = .ok (.invokevirtual 134, 3) := by decide +kernel
theorem dX8_end_102 : decode cX8_end 102 = .ok (.goto 49, 3) := by decide +kernel
theorem dX8_end_105 : decode cX8_end 105 = .ok (.aload_n 0, 1) := by decide +kernel
theorem dX8_end_106 : decode cX8_end 106 = .ok (.aload_n 1, 1) := by decide +kernel
theorem dX8_end_107 : decode cX8_end 107 = .ok (.getfield 165, 3) := by decide +kernel
theorem dX8_end_110 : decode cX8_end 110 = .ok (.invokevirtual 322, 3) := by decide +kernel
theorem dX8_end_113 : decode cX8_end 113 = .ok (.aload_n 0, 1) := by decide +kernel
theorem dX8_end_114 : decode cX8_end 114 = .ok (.aload_n 1, 1) := by decide +kernel
theorem dX8_end_115 : decode cX8_end 115 = .ok (.getfield 169, 3) := by decide +kernel
theorem dX8_end_118 : decode cX8_end 118 = .ok (.invokevirtual 322, 3) := by decide +kernel
theorem dX8_end_121 : decode cX8_end 121 = .ok (.if_icmp .ne 30, 3) := by decide +kernel
theorem dX8_end_124 : decode cX8_end 124 = .ok (.aload_n 1, 1) := by decide +kernel
theorem dX8_end_125 : decode cX8_end 125 = .ok (.aload_n 1, 1) := by decide +kernel
theorem dX8_end_126 : decode cX8_end 126 = .ok (.getfield 162, 3) := by decide +kernel
theorem dX8_end_129 : decode cX8_end 129 = .ok (.bipush 11, 2) := by decide +kernel
theorem dX8_end_131 : decode cX8_end 131 = .ok (.if_icmp .eq 12, 3) := by decide +kernel
theorem dX8_end_134 : decode cX8_end 134 = .ok (.aload_n 1, 1) := by decide +kernel
theorem dX8_end_135 : decode cX8_end 135 = .ok (.getfield 162, 3) := by decide +kernel
theorem dX8_end_138 : decode cX8_end 138 = .ok (.bipush 16, 2) := by decide +kernel
theorem dX8_end_140 : decode cX8_end 140 = .ok (.if_icmp .ne 7, 3) := by decide +kernel
theorem dX8_end_143 : decode cX8_end 143 = .ok (.iconst 1, 1) := by decide +kernel
theorem dX8_end_144 : decode cX8_end 144 = .ok (.goto 4, 3) := by decide +kernel
theorem dX8_end_147 : decode cX8_end 147 = .ok (.iconst 0, 1) := by decide +kernel
theorem dX8_end_148 : decode cX8_end 148 = .ok (.invokevirtual 134, 3) := by decide +kernel
theorem dX8_end_151 : decode cX8_end 151 = .ok (.return_, 1) := by decide +kernel
