/-! code and decode rows of J10 (claim/names) -/
set_option maxRecDepth 100000
abbrev cJ10_init : ByteArray := prog_30_method_2_code
def yJ10_init : MethodName := ⟨RJ10, "<init>", "(Ljava/lang/String;)V"⟩
def dkwJ10_init_0 : List UInt8 := [42, 43, 183, 0, 7, 177]
abbrev dktJ10_init_0 : List UInt8 := dkwJ10_init_0 ++ []
theorem dksJ10_init_0 : cJ10_init.data.toList.drop 0 = dktJ10_init_0 := by decide +kernel
theorem dJ10_init_0 : decode cJ10_init 0 = .ok (.aload_n 0, 1) := dk_42 (dk_at dksJ10_init_0 0 rfl rfl)
theorem dJ10_init_1 : decode cJ10_init 1 = .ok (.aload_n 1, 1) := dk_43 (dk_at dksJ10_init_0 1 rfl rfl)
theorem dJ10_init_2 : decode cJ10_init 2 = .ok (.invokespecial 7, 3) := dk_183 0 7 (dk_at dksJ10_init_0 2 rfl rfl)
theorem dJ10_init_5 : decode cJ10_init 5 = .ok (.return_, 1) := dk_177 (dk_at dksJ10_init_0 5 rfl rfl)
abbrev cJ10_init_2 : ByteArray := prog_30_method_1_code
def yJ10_init_2 : MethodName := ⟨RJ10, "<init>", "()V"⟩
theorem dJ10_init_2_0 : decode cJ10_init_2 0 = .ok (.aload_n 0, 1) := by decide +kernel
theorem dJ10_init_2_1 : decode cJ10_init_2 1 = .ok (.invokespecial 1, 3) := by decide +kernel
theorem dJ10_init_2_4 : decode cJ10_init_2 4 = .ok (.return_, 1) := by decide +kernel
abbrev cJ10_init_3 : ByteArray := prog_30_method_4_code
def yJ10_init_3 : MethodName := ⟨RJ10, "<init>", "(Ljava/lang/Throwable;)V"⟩
def dkwJ10_init_3_0 : List UInt8 := [42, 43, 183, 0, 13, 177]
abbrev dktJ10_init_3_0 : List UInt8 := dkwJ10_init_3_0 ++ []
theorem dksJ10_init_3_0 : cJ10_init_3.data.toList.drop 0 = dktJ10_init_3_0 := by decide +kernel
theorem dJ10_init_3_0 : decode cJ10_init_3 0 = .ok (.aload_n 0, 1) := dk_42 (dk_at dksJ10_init_3_0 0 rfl rfl)
theorem dJ10_init_3_1 : decode cJ10_init_3 1 = .ok (.aload_n 1, 1) := dk_43 (dk_at dksJ10_init_3_0 1 rfl rfl)
theorem dJ10_init_3_2 : decode cJ10_init_3 2 = .ok (.invokespecial 13, 3) := dk_183 0 13 (dk_at dksJ10_init_3_0 2 rfl rfl)
theorem dJ10_init_3_5 : decode cJ10_init_3 5 = .ok (.return_, 1) := dk_177 (dk_at dksJ10_init_3_0 5 rfl rfl)
abbrev cJ10_init_4 : ByteArray := prog_30_method_3_code
def yJ10_init_4 : MethodName := ⟨RJ10, "<init>", "(Ljava/lang/String;Ljava/lang/Throwable;)V"⟩
def dkwJ10_init_4_0 : List UInt8 := [42, 43, 44, 183, 0, 10, 177]
abbrev dktJ10_init_4_0 : List UInt8 := dkwJ10_init_4_0 ++ []
theorem dksJ10_init_4_0 : cJ10_init_4.data.toList.drop 0 = dktJ10_init_4_0 := by decide +kernel
theorem dJ10_init_4_0 : decode cJ10_init_4 0 = .ok (.aload_n 0, 1) := dk_42 (dk_at dksJ10_init_4_0 0 rfl rfl)
theorem dJ10_init_4_1 : decode cJ10_init_4 1 = .ok (.aload_n 1, 1) := dk_43 (dk_at dksJ10_init_4_0 1 rfl rfl)
theorem dJ10_init_4_2 : decode cJ10_init_4 2 = .ok (.aload_n 2, 1) := dk_44 (dk_at dksJ10_init_4_0 2 rfl rfl)
theorem dJ10_init_4_3 : decode cJ10_init_4 3 = .ok (.invokespecial 10, 3) := dk_183 0 10 (dk_at dksJ10_init_4_0 3 rfl rfl)
theorem dJ10_init_4_6 : decode cJ10_init_4 6 = .ok (.return_, 1) := dk_177 (dk_at dksJ10_init_4_0 6 rfl rfl)
