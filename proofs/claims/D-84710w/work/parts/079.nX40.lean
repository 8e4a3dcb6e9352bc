/-! names: X4_init (tools/chunk.py) -/
set_option maxRecDepth 100000
theorem q452 : (Jvm.Cond.methodLink "CompiledHouse$Statement" (1 : Nat) ({ cls := "java/lang/Object", name := "<init>", desc := "()V" } : Jvm.MethodName)) ∈ lw_all := lw_g (lw_at lw_m2 16 rfl) rfl
theorem lk_X4_1 : xLk RX4 1 yJ18_init := Or.inl q452
theorem dX4_init_0 : decode cX4_init 0 = .ok (.aload_n 0, 1) := by decide +kernel
theorem dX4_init_1 : decode cX4_init 1 = .ok (.invokespecial 1, 3) := by decide +kernel
theorem dX4_init_4 : decode cX4_init 4 = .ok (.return_, 1) := by decide +kernel
