/-! code and decode rows of X19 (claim/names) -/
set_option maxRecDepth 100000
abbrev cX19_does : ByteArray := prog_7_method_2_code
def yX19_does : MethodName := ⟨RX19, "does", "(LBrassInspector$Round;)I"⟩
def dkwX19_does_0 : List UInt8 := [43, 42, 180, 0, 7, 184, 0, 17, 172]
abbrev dktX19_does_0 : List UInt8 := dkwX19_does_0 ++ []
theorem dksX19_does_0 : cX19_does.data.toList.drop 0 = dktX19_does_0 := by decide +kernel
theorem dX19_does_0 : decode cX19_does 0 = .ok (.aload_n 1, 1) := dk_43 (dk_at dksX19_does_0 0 rfl rfl)
theorem dX19_does_1 : decode cX19_does 1 = .ok (.aload_n 0, 1) := dk_42 (dk_at dksX19_does_0 1 rfl rfl)
theorem dX19_does_2 : decode cX19_does 2 = .ok (.getfield 7, 3) := dk_180 0 7 (dk_at dksX19_does_0 2 rfl rfl)
theorem dX19_does_5 : decode cX19_does 5 = .ok (.invokestatic 17, 3) := dk_184 0 17 (dk_at dksX19_does_0 5 rfl rfl)
theorem dX19_does_8 : decode cX19_does 8 = .ok (.ireturn, 1) := dk_172 (dk_at dksX19_does_0 8 rfl rfl)
abbrev cX19_init : ByteArray := prog_7_method_1_code
def yX19_init : MethodName := ⟨RX19, "<init>", "(LBrassInspector;Ljava/util/List;)V"⟩
def dkwX19_init_0 : List UInt8 := [42, 43, 181, 0, 1, 42, 44, 181, 0, 7, 42, 183, 0, 11, 177]
abbrev dktX19_init_0 : List UInt8 := dkwX19_init_0 ++ []
theorem dksX19_init_0 : cX19_init.data.toList.drop 0 = dktX19_init_0 := by decide +kernel
theorem dX19_init_0 : decode cX19_init 0 = .ok (.aload_n 0, 1) := dk_42 (dk_at dksX19_init_0 0 rfl rfl)
theorem dX19_init_1 : decode cX19_init 1 = .ok (.aload_n 1, 1) := dk_43 (dk_at dksX19_init_0 1 rfl rfl)
theorem dX19_init_2 : decode cX19_init 2 = .ok (.putfield 1, 3) := dk_181 0 1 (dk_at dksX19_init_0 2 rfl rfl)
theorem dX19_init_5 : decode cX19_init 5 = .ok (.aload_n 0, 1) := dk_42 (dk_at dksX19_init_0 5 rfl rfl)
theorem dX19_init_6 : decode cX19_init 6 = .ok (.aload_n 2, 1) := dk_44 (dk_at dksX19_init_0 6 rfl rfl)
theorem dX19_init_7 : decode cX19_init 7 = .ok (.putfield 7, 3) := dk_181 0 7 (dk_at dksX19_init_0 7 rfl rfl)
theorem dX19_init_10 : decode cX19_init 10 = .ok (.aload_n 0, 1) := dk_42 (dk_at dksX19_init_0 10 rfl rfl)
theorem dX19_init_11 : decode cX19_init 11 = .ok (.invokespecial 11, 3) := dk_183 0 11 (dk_at dksX19_init_0 11 rfl rfl)
theorem dX19_init_14 : decode cX19_init 14 = .ok (.return_, 1) := dk_177 (dk_at dksX19_init_0 14 rfl rfl)
