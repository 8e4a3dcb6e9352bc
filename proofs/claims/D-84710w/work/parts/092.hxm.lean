/-! ===== 092.hxm (tools/h045.py) ===== -/
set_option maxRecDepth 100000
section W092
variable {G : xG}
theorem xm_X15_constant : xmh ⟨"CompiledHouse$Expr", "constant", "(LCompiledHouse$Maker;)I"⟩ 1 := ⟨by decide, by decide, by decide +kernel⟩
theorem xm_X15_value : xmh ⟨"CompiledHouse$Expr", "value", "(LCompiledHouse$Maker;)J"⟩ 1 := ⟨by decide, by decide, by decide +kernel⟩
theorem xm_X15_branch : xmh ⟨"CompiledHouse$Expr", "branch", "(LCompiledHouse$Maker;LCompiledHouse$Block;LCompiledHouse$Block;)V"⟩ 3 := ⟨by decide, by decide, by decide +kernel⟩
theorem xm_X15_alone : xmh ⟨"CompiledHouse$Expr", "alone", "()LCompiledHouse$Name;"⟩ 0 := ⟨by decide, by decide, by decide +kernel⟩
theorem xm_X15_leading : xmh ⟨"CompiledHouse$Expr", "leading", "()I"⟩ 0 := ⟨by decide, by decide, by decide +kernel⟩
theorem xm_X4_lower : xmh ⟨"CompiledHouse$Statement", "lower", "(LCompiledHouse$Maker;)V"⟩ 1 := ⟨by decide, by decide, by decide +kernel⟩
end W092
