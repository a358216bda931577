/-! code and decode rows of X11 (claim/names) -/
set_option maxRecDepth 100000
abbrev cX11_does : ByteArray := prog_3_method_2_code
def yX11_does : MethodName := ⟨RX11, "does", "(LBrassInspector$Round;)I"⟩
def dkwX11_does_0 : List UInt8 := [43, 42, 180, 0, 7, 42, 180, 0, 11, 42, 180, 0, 14, 182, 0, 23, 172]
abbrev dktX11_does_0 : List UInt8 := dkwX11_does_0 ++ []
theorem dksX11_does_0 : cX11_does.data.toList.drop 0 = dktX11_does_0 := by decide +kernel
theorem dX11_does_0 : decode cX11_does 0 = .ok (.aload_n 1, 1) := dk_43 (dk_at dksX11_does_0 0 rfl rfl)
theorem dX11_does_1 : decode cX11_does 1 = .ok (.aload_n 0, 1) := dk_42 (dk_at dksX11_does_0 1 rfl rfl)
theorem dX11_does_2 : decode cX11_does 2 = .ok (.getfield 7, 3) := dk_180 0 7 (dk_at dksX11_does_0 2 rfl rfl)
theorem dX11_does_5 : decode cX11_does 5 = .ok (.aload_n 0, 1) := dk_42 (dk_at dksX11_does_0 5 rfl rfl)
theorem dX11_does_6 : decode cX11_does 6 = .ok (.getfield 11, 3) := dk_180 0 11 (dk_at dksX11_does_0 6 rfl rfl)
theorem dX11_does_9 : decode cX11_does 9 = .ok (.aload_n 0, 1) := dk_42 (dk_at dksX11_does_0 9 rfl rfl)
theorem dX11_does_10 : decode cX11_does 10 = .ok (.getfield 14, 3) := dk_180 0 14 (dk_at dksX11_does_0 10 rfl rfl)
theorem dX11_does_13 : decode cX11_does 13 = .ok (.invokevirtual 23, 3) := dk_182 0 23 (dk_at dksX11_does_0 13 rfl rfl)
theorem dX11_does_16 : decode cX11_does 16 = .ok (.ireturn, 1) := dk_172 (dk_at dksX11_does_0 16 rfl rfl)
abbrev cX11_init : ByteArray := prog_3_method_1_code
def yX11_init : MethodName := ⟨RX11, "<init>", "(LBrassInspector;III)V"⟩
def dkwX11_init_1 : List UInt8 := [183, 0, 17, 177]
abbrev dktX11_init_1 : List UInt8 := dkwX11_init_1 ++ []
def dkwX11_init_0 : List UInt8 := [42, 43, 181, 0, 1, 42, 28, 181, 0, 7, 42, 29, 181, 0, 11, 42, 21, 4, 181, 0, 14, 42]
abbrev dktX11_init_0 : List UInt8 := dkwX11_init_0 ++ dktX11_init_1
theorem dksX11_init_0 : cX11_init.data.toList.drop 0 = dktX11_init_0 := by decide +kernel
theorem dksX11_init_1 : cX11_init.data.toList.drop 22 = dktX11_init_1 := dk_seg dksX11_init_0 22 rfl rfl
theorem dX11_init_0 : decode cX11_init 0 = .ok (.aload_n 0, 1) := dk_42 (dk_at dksX11_init_0 0 rfl rfl)
theorem dX11_init_1 : decode cX11_init 1 = .ok (.aload_n 1, 1) := dk_43 (dk_at dksX11_init_0 1 rfl rfl)
theorem dX11_init_2 : decode cX11_init 2 = .ok (.putfield 1, 3) := dk_181 0 1 (dk_at dksX11_init_0 2 rfl rfl)
theorem dX11_init_5 : decode cX11_init 5 = .ok (.aload_n 0, 1) := dk_42 (dk_at dksX11_init_0 5 rfl rfl)
theorem dX11_init_6 : decode cX11_init 6 = .ok (.iload_n 2, 1) := dk_28 (dk_at dksX11_init_0 6 rfl rfl)
theorem dX11_init_7 : decode cX11_init 7 = .ok (.putfield 7, 3) := dk_181 0 7 (dk_at dksX11_init_0 7 rfl rfl)
theorem dX11_init_10 : decode cX11_init 10 = .ok (.aload_n 0, 1) := dk_42 (dk_at dksX11_init_0 10 rfl rfl)
theorem dX11_init_11 : decode cX11_init 11 = .ok (.iload_n 3, 1) := dk_29 (dk_at dksX11_init_0 11 rfl rfl)
theorem dX11_init_12 : decode cX11_init 12 = .ok (.putfield 11, 3) := dk_181 0 11 (dk_at dksX11_init_0 12 rfl rfl)
theorem dX11_init_15 : decode cX11_init 15 = .ok (.aload_n 0, 1) := dk_42 (dk_at dksX11_init_0 15 rfl rfl)
theorem dX11_init_16 : decode cX11_init 16 = .ok (.iload 4, 2) := dk_21 4 (dk_at dksX11_init_0 16 rfl rfl)
theorem dX11_init_18 : decode cX11_init 18 = .ok (.putfield 14, 3) := dk_181 0 14 (dk_at dksX11_init_0 18 rfl rfl)
theorem dX11_init_21 : decode cX11_init 21 = .ok (.aload_n 0, 1) := dk_42 (dk_at dksX11_init_0 21 rfl rfl)
theorem dX11_init_22 : decode cX11_init 22 = .ok (.invokespecial 17, 3) := dk_183 0 17 (dk_at dksX11_init_1 0 rfl rfl)
theorem dX11_init_25 : decode cX11_init 25 = .ok (.return_, 1) := dk_177 (dk_at dksX11_init_1 3 rfl rfl)
