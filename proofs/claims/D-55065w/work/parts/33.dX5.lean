/-! code and decode rows of X5 (claim/names) -/
set_option maxRecDepth 100000
abbrev cX5_init : ByteArray := prog_2_method_1_code
def yX5_init : MethodName := ⟨RX5, "<init>", "(LBrassInspector;II)V"⟩
def dkwX5_init_0 : List UInt8 := [42, 43, 181, 0, 1, 42, 28, 181, 0, 7, 42, 29, 181, 0, 11, 42, 183, 0, 14, 177]
abbrev dktX5_init_0 : List UInt8 := dkwX5_init_0 ++ []
theorem dksX5_init_0 : cX5_init.data.toList.drop 0 = dktX5_init_0 := by decide +kernel
theorem dX5_init_0 : decode cX5_init 0 = .ok (.aload_n 0, 1) := dk_42 (dk_at dksX5_init_0 0 rfl rfl)
theorem dX5_init_1 : decode cX5_init 1 = .ok (.aload_n 1, 1) := dk_43 (dk_at dksX5_init_0 1 rfl rfl)
theorem dX5_init_2 : decode cX5_init 2 = .ok (.putfield 1, 3) := dk_181 0 1 (dk_at dksX5_init_0 2 rfl rfl)
theorem dX5_init_5 : decode cX5_init 5 = .ok (.aload_n 0, 1) := dk_42 (dk_at dksX5_init_0 5 rfl rfl)
theorem dX5_init_6 : decode cX5_init 6 = .ok (.iload_n 2, 1) := dk_28 (dk_at dksX5_init_0 6 rfl rfl)
theorem dX5_init_7 : decode cX5_init 7 = .ok (.putfield 7, 3) := dk_181 0 7 (dk_at dksX5_init_0 7 rfl rfl)
theorem dX5_init_10 : decode cX5_init 10 = .ok (.aload_n 0, 1) := dk_42 (dk_at dksX5_init_0 10 rfl rfl)
theorem dX5_init_11 : decode cX5_init 11 = .ok (.iload_n 3, 1) := dk_29 (dk_at dksX5_init_0 11 rfl rfl)
theorem dX5_init_12 : decode cX5_init 12 = .ok (.putfield 11, 3) := dk_181 0 11 (dk_at dksX5_init_0 12 rfl rfl)
theorem dX5_init_15 : decode cX5_init 15 = .ok (.aload_n 0, 1) := dk_42 (dk_at dksX5_init_0 15 rfl rfl)
theorem dX5_init_16 : decode cX5_init 16 = .ok (.invokespecial 14, 3) := dk_183 0 14 (dk_at dksX5_init_0 16 rfl rfl)
theorem dX5_init_19 : decode cX5_init 19 = .ok (.return_, 1) := dk_177 (dk_at dksX5_init_0 19 rfl rfl)
abbrev cX5_does : ByteArray := prog_2_method_2_code
def yX5_does : MethodName := ⟨RX5, "does", "(LBrassInspector$Round;)I"⟩
def dkwX5_does_0 : List UInt8 := [43, 42, 180, 0, 7, 42, 180, 0, 11, 182, 0, 20, 172]
abbrev dktX5_does_0 : List UInt8 := dkwX5_does_0 ++ []
theorem dksX5_does_0 : cX5_does.data.toList.drop 0 = dktX5_does_0 := by decide +kernel
theorem dX5_does_0 : decode cX5_does 0 = .ok (.aload_n 1, 1) := dk_43 (dk_at dksX5_does_0 0 rfl rfl)
theorem dX5_does_1 : decode cX5_does 1 = .ok (.aload_n 0, 1) := dk_42 (dk_at dksX5_does_0 1 rfl rfl)
theorem dX5_does_2 : decode cX5_does 2 = .ok (.getfield 7, 3) := dk_180 0 7 (dk_at dksX5_does_0 2 rfl rfl)
theorem dX5_does_5 : decode cX5_does 5 = .ok (.aload_n 0, 1) := dk_42 (dk_at dksX5_does_0 5 rfl rfl)
theorem dX5_does_6 : decode cX5_does 6 = .ok (.getfield 11, 3) := dk_180 0 11 (dk_at dksX5_does_0 6 rfl rfl)
theorem dX5_does_9 : decode cX5_does 9 = .ok (.invokevirtual 20, 3) := dk_182 0 20 (dk_at dksX5_does_0 9 rfl rfl)
theorem dX5_does_12 : decode cX5_does 12 = .ok (.ireturn, 1) := dk_172 (dk_at dksX5_does_0 12 rfl rfl)
