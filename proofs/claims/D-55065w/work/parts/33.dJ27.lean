/-! code and decode rows of J27 (claim/names) -/
set_option maxRecDepth 100000
abbrev cJ27_init : ByteArray := prog_64_method_1_code
def yJ27_init : MethodName := ⟨RJ27, "<init>", "(Ljava/util/LinkedList$Node;Ljava/lang/Object;Ljava/util/LinkedList$Node;)V"⟩
def dkwJ27_init_0 : List UInt8 := [42, 183, 0, 1, 42, 44, 181, 0, 7, 42, 45, 181, 0, 13, 42, 43, 181, 0, 17, 177]
abbrev dktJ27_init_0 : List UInt8 := dkwJ27_init_0 ++ []
theorem dksJ27_init_0 : cJ27_init.data.toList.drop 0 = dktJ27_init_0 := by decide +kernel
theorem dJ27_init_0 : decode cJ27_init 0 = .ok (.aload_n 0, 1) := dk_42 (dk_at dksJ27_init_0 0 rfl rfl)
theorem dJ27_init_1 : decode cJ27_init 1 = .ok (.invokespecial 1, 3) := dk_183 0 1 (dk_at dksJ27_init_0 1 rfl rfl)
theorem dJ27_init_4 : decode cJ27_init 4 = .ok (.aload_n 0, 1) := dk_42 (dk_at dksJ27_init_0 4 rfl rfl)
theorem dJ27_init_5 : decode cJ27_init 5 = .ok (.aload_n 2, 1) := dk_44 (dk_at dksJ27_init_0 5 rfl rfl)
theorem dJ27_init_6 : decode cJ27_init 6 = .ok (.putfield 7, 3) := dk_181 0 7 (dk_at dksJ27_init_0 6 rfl rfl)
theorem dJ27_init_9 : decode cJ27_init 9 = .ok (.aload_n 0, 1) := dk_42 (dk_at dksJ27_init_0 9 rfl rfl)
theorem dJ27_init_10 : decode cJ27_init 10 = .ok (.aload_n 3, 1) := dk_45 (dk_at dksJ27_init_0 10 rfl rfl)
theorem dJ27_init_11 : decode cJ27_init 11 = .ok (.putfield 13, 3) := dk_181 0 13 (dk_at dksJ27_init_0 11 rfl rfl)
theorem dJ27_init_14 : decode cJ27_init 14 = .ok (.aload_n 0, 1) := dk_42 (dk_at dksJ27_init_0 14 rfl rfl)
theorem dJ27_init_15 : decode cJ27_init 15 = .ok (.aload_n 1, 1) := dk_43 (dk_at dksJ27_init_0 15 rfl rfl)
theorem dJ27_init_16 : decode cJ27_init 16 = .ok (.putfield 17, 3) := dk_181 0 17 (dk_at dksJ27_init_0 16 rfl rfl)
theorem dJ27_init_19 : decode cJ27_init 19 = .ok (.return_, 1) := dk_177 (dk_at dksJ27_init_0 19 rfl rfl)
