/-! code and decode rows of X9 (claim/names) -/
set_option maxRecDepth 100000
abbrev cX9_init : ByteArray := prog_15_method_1_code
def yX9_init : MethodName := ⟨RX9, "<init>", "(LBrassInspector$Round;I)V"⟩
def dkwX9_init_0 : List UInt8 := [42, 43, 181, 0, 1, 42, 183, 0, 7, 42, 28, 181, 0, 13, 177]
abbrev dktX9_init_0 : List UInt8 := dkwX9_init_0 ++ []
theorem dksX9_init_0 : cX9_init.data.toList.drop 0 = dktX9_init_0 := by decide +kernel
theorem dX9_init_0 : decode cX9_init 0 = .ok (.aload_n 0, 1) := dk_42 (dk_at dksX9_init_0 0 rfl rfl)
theorem dX9_init_1 : decode cX9_init 1 = .ok (.aload_n 1, 1) := dk_43 (dk_at dksX9_init_0 1 rfl rfl)
theorem dX9_init_2 : decode cX9_init 2 = .ok (.putfield 1, 3) := dk_181 0 1 (dk_at dksX9_init_0 2 rfl rfl)
theorem dX9_init_5 : decode cX9_init 5 = .ok (.aload_n 0, 1) := dk_42 (dk_at dksX9_init_0 5 rfl rfl)
theorem dX9_init_6 : decode cX9_init 6 = .ok (.invokespecial 7, 3) := dk_183 0 7 (dk_at dksX9_init_0 6 rfl rfl)
theorem dX9_init_9 : decode cX9_init 9 = .ok (.aload_n 0, 1) := dk_42 (dk_at dksX9_init_0 9 rfl rfl)
theorem dX9_init_10 : decode cX9_init 10 = .ok (.iload_n 2, 1) := dk_28 (dk_at dksX9_init_0 10 rfl rfl)
theorem dX9_init_11 : decode cX9_init 11 = .ok (.putfield 13, 3) := dk_181 0 13 (dk_at dksX9_init_0 11 rfl rfl)
theorem dX9_init_14 : decode cX9_init 14 = .ok (.return_, 1) := dk_177 (dk_at dksX9_init_0 14 rfl rfl)
abbrev cX9_iterator : ByteArray := prog_15_method_2_code
def yX9_iterator : MethodName := ⟨RX9, "iterator", "()Ljava/util/Iterator;"⟩
def dkwX9_iterator_0 : List UInt8 := [187, 0, 17, 89, 42, 183, 0, 19, 176]
abbrev dktX9_iterator_0 : List UInt8 := dkwX9_iterator_0 ++ []
theorem dksX9_iterator_0 : cX9_iterator.data.toList.drop 0 = dktX9_iterator_0 := by decide +kernel
theorem dX9_iterator_0 : decode cX9_iterator 0 = .ok (.new 17, 3) := dk_187 0 17 (dk_at dksX9_iterator_0 0 rfl rfl)
theorem dX9_iterator_3 : decode cX9_iterator 3 = .ok (.dup, 1) := dk_89 (dk_at dksX9_iterator_0 3 rfl rfl)
theorem dX9_iterator_4 : decode cX9_iterator 4 = .ok (.aload_n 0, 1) := dk_42 (dk_at dksX9_iterator_0 4 rfl rfl)
theorem dX9_iterator_5 : decode cX9_iterator 5 = .ok (.invokespecial 19, 3) := dk_183 0 19 (dk_at dksX9_iterator_0 5 rfl rfl)
theorem dX9_iterator_8 : decode cX9_iterator 8 = .ok (.areturn, 1) := dk_176 (dk_at dksX9_iterator_0 8 rfl rfl)
