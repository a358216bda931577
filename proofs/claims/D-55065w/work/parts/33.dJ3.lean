/-! code and decode rows of J3 (claim/names) -/
set_option maxRecDepth 100000
abbrev cJ3_init : ByteArray := prog_54_method_1_code
def yJ3_init : MethodName := ⟨RJ3, "<init>", "()V"⟩
theorem dJ3_init_0 : decode cJ3_init 0 = .ok (.aload_n 0, 1) := by decide +kernel
theorem dJ3_init_1 : decode cJ3_init 1 = .ok (.invokespecial 1, 3) := by decide +kernel
theorem dJ3_init_4 : decode cJ3_init 4 = .ok (.return_, 1) := by decide +kernel
abbrev cJ3_iterator : ByteArray := prog_54_method_7_code
def yJ3_iterator : MethodName := ⟨RJ3, "iterator", "()Ljava/util/Iterator;"⟩
theorem dJ3_iterator_0 : decode cJ3_iterator 0 = .ok (.aload_n 0, 1) := by decide +kernel
theorem dJ3_iterator_1 : decode cJ3_iterator 1 = .ok (.invokevirtual 65, 3) := by decide +kernel
theorem dJ3_iterator_4 : decode cJ3_iterator 4 = .ok (.areturn, 1) := by decide +kernel
