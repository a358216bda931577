/-! code and decode rows of J0 (claim/names) -/
set_option maxRecDepth 100000
abbrev cJ0_init : ByteArray := prog_50_method_1_code
def yJ0_init : MethodName := ⟨RJ0, "<init>", "()V"⟩
theorem dJ0_init_0 : decode cJ0_init 0 = .ok (.aload_n 0, 1) := by decide +kernel
theorem dJ0_init_1 : decode cJ0_init 1 = .ok (.invokespecial 1, 3) := by decide +kernel
theorem dJ0_init_4 : decode cJ0_init 4 = .ok (.return_, 1) := by decide +kernel
abbrev cJ0_isEmpty : ByteArray := prog_50_method_4_code
def yJ0_isEmpty : MethodName := ⟨RJ0, "isEmpty", "()Z"⟩
def dkwJ0_isEmpty_0 : List UInt8 := [42, 182, 0, 7, 154, 0, 7, 4, 167, 0, 4, 3, 172]
abbrev dktJ0_isEmpty_0 : List UInt8 := dkwJ0_isEmpty_0 ++ []
theorem dksJ0_isEmpty_0 : cJ0_isEmpty.data.toList.drop 0 = dktJ0_isEmpty_0 := by decide +kernel
theorem dJ0_isEmpty_0 : decode cJ0_isEmpty 0 = .ok (.aload_n 0, 1) := dk_42 (dk_at dksJ0_isEmpty_0 0 rfl rfl)
theorem dJ0_isEmpty_1 : decode cJ0_isEmpty 1 = .ok (.invokevirtual 7, 3) := dk_182 0 7 (dk_at dksJ0_isEmpty_0 1 rfl rfl)
theorem dJ0_isEmpty_4 : decode cJ0_isEmpty 4 = .ok (.ifCond .ne 7, 3) := dk_154 0 7 (dk_at dksJ0_isEmpty_0 4 rfl rfl)
theorem dJ0_isEmpty_7 : decode cJ0_isEmpty 7 = .ok (.iconst 1, 1) := dk_4 (dk_at dksJ0_isEmpty_0 7 rfl rfl)
theorem dJ0_isEmpty_8 : decode cJ0_isEmpty 8 = .ok (.goto 4, 3) := dk_167 0 4 (dk_at dksJ0_isEmpty_0 8 rfl rfl)
theorem dJ0_isEmpty_11 : decode cJ0_isEmpty 11 = .ok (.iconst 0, 1) := dk_3 (dk_at dksJ0_isEmpty_0 11 rfl rfl)
theorem dJ0_isEmpty_12 : decode cJ0_isEmpty 12 = .ok (.ireturn, 1) := dk_172 (dk_at dksJ0_isEmpty_0 12 rfl rfl)
