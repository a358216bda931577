/-! code and decode rows of X15 (claim/names) -/
set_option maxRecDepth 100000
abbrev cX15_does : ByteArray := prog_5_method_2_code
def yX15_does : MethodName := ⟨RX15, "does", "(LBrassInspector$Round;)I"⟩
def dkwX15_does_0 : List UInt8 := [43, 42, 180, 0, 7, 182, 0, 17, 172]
abbrev dktX15_does_0 : List UInt8 := dkwX15_does_0 ++ []
theorem dksX15_does_0 : cX15_does.data.toList.drop 0 = dktX15_does_0 := by decide +kernel
theorem dX15_does_0 : decode cX15_does 0 = .ok (.aload_n 1, 1) := dk_43 (dk_at dksX15_does_0 0 rfl rfl)
theorem dX15_does_1 : decode cX15_does 1 = .ok (.aload_n 0, 1) := dk_42 (dk_at dksX15_does_0 1 rfl rfl)
theorem dX15_does_2 : decode cX15_does 2 = .ok (.getfield 7, 3) := dk_180 0 7 (dk_at dksX15_does_0 2 rfl rfl)
theorem dX15_does_5 : decode cX15_does 5 = .ok (.invokevirtual 17, 3) := dk_182 0 17 (dk_at dksX15_does_0 5 rfl rfl)
theorem dX15_does_8 : decode cX15_does 8 = .ok (.ireturn, 1) := dk_172 (dk_at dksX15_does_0 8 rfl rfl)
abbrev cX15_init : ByteArray := prog_5_method_1_code
def yX15_init : MethodName := ⟨RX15, "<init>", "(LBrassInspector;I)V"⟩
def dkwX15_init_0 : List UInt8 := [42, 43, 181, 0, 1, 42, 28, 181, 0, 7, 42, 183, 0, 11, 177]
abbrev dktX15_init_0 : List UInt8 := dkwX15_init_0 ++ []
theorem dksX15_init_0 : cX15_init.data.toList.drop 0 = dktX15_init_0 := by decide +kernel
theorem dX15_init_0 : decode cX15_init 0 = .ok (.aload_n 0, 1) := dk_42 (dk_at dksX15_init_0 0 rfl rfl)
theorem dX15_init_1 : decode cX15_init 1 = .ok (.aload_n 1, 1) := dk_43 (dk_at dksX15_init_0 1 rfl rfl)
theorem dX15_init_2 : decode cX15_init 2 = .ok (.putfield 1, 3) := dk_181 0 1 (dk_at dksX15_init_0 2 rfl rfl)
theorem dX15_init_5 : decode cX15_init 5 = .ok (.aload_n 0, 1) := dk_42 (dk_at dksX15_init_0 5 rfl rfl)
theorem dX15_init_6 : decode cX15_init 6 = .ok (.iload_n 2, 1) := dk_28 (dk_at dksX15_init_0 6 rfl rfl)
theorem dX15_init_7 : decode cX15_init 7 = .ok (.putfield 7, 3) := dk_181 0 7 (dk_at dksX15_init_0 7 rfl rfl)
theorem dX15_init_10 : decode cX15_init 10 = .ok (.aload_n 0, 1) := dk_42 (dk_at dksX15_init_0 10 rfl rfl)
theorem dX15_init_11 : decode cX15_init 11 = .ok (.invokespecial 11, 3) := dk_183 0 11 (dk_at dksX15_init_0 11 rfl rfl)
theorem dX15_init_14 : decode cX15_init 14 = .ok (.return_, 1) := dk_177 (dk_at dksX15_init_0 14 rfl rfl)
