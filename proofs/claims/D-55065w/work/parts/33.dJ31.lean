/-! code and decode rows of J31 (claim/names) -/
set_option maxRecDepth 100000
abbrev cJ31_init : ByteArray := prog_41_method_3_code
def yJ31_init : MethodName := ⟨RJ31, "<init>", "(I)V"⟩
def dkwJ31_init_0 : List UInt8 := [42, 187, 0, 10, 89, 183, 0, 12, 18, 13, 182, 0, 15, 27, 182, 0, 19, 182, 0, 22, 183, 0, 7, 177]
abbrev dktJ31_init_0 : List UInt8 := dkwJ31_init_0 ++ []
theorem dksJ31_init_0 : cJ31_init.data.toList.drop 0 = dktJ31_init_0 := by decide +kernel
theorem dJ31_init_0 : decode cJ31_init 0 = .ok (.aload_n 0, 1) := dk_42 (dk_at dksJ31_init_0 0 rfl rfl)
theorem dJ31_init_1 : decode cJ31_init 1 = .ok (.new 10, 3) := dk_187 0 10 (dk_at dksJ31_init_0 1 rfl rfl)
theorem dJ31_init_4 : decode cJ31_init 4 = .ok (.dup, 1) := dk_89 (dk_at dksJ31_init_0 4 rfl rfl)
theorem dJ31_init_5 : decode cJ31_init 5 = .ok (.invokespecial 12, 3) := dk_183 0 12 (dk_at dksJ31_init_0 5 rfl rfl)
theorem dJ31_init_8 : decode cJ31_init 8 = .ok (.ldc 13, 2) := dk_18 13 (dk_at dksJ31_init_0 8 rfl rfl)
theorem dJ31_init_10 : decode cJ31_init 10 = .ok (.invokevirtual 15, 3) := dk_182 0 15 (dk_at dksJ31_init_0 10 rfl rfl)
theorem dJ31_init_13 : decode cJ31_init 13 = .ok (.iload_n 1, 1) := dk_27 (dk_at dksJ31_init_0 13 rfl rfl)
theorem dJ31_init_14 : decode cJ31_init 14 = .ok (.invokevirtual 19, 3) := dk_182 0 19 (dk_at dksJ31_init_0 14 rfl rfl)
theorem dJ31_init_17 : decode cJ31_init 17 = .ok (.invokevirtual 22, 3) := dk_182 0 22 (dk_at dksJ31_init_0 17 rfl rfl)
theorem dJ31_init_20 : decode cJ31_init 20 = .ok (.invokespecial 7, 3) := dk_183 0 7 (dk_at dksJ31_init_0 20 rfl rfl)
theorem dJ31_init_23 : decode cJ31_init 23 = .ok (.return_, 1) := dk_177 (dk_at dksJ31_init_0 23 rfl rfl)
