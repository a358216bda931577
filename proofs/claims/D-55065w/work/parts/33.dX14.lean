/-! code and decode rows of X14 (claim/names) -/
set_option maxRecDepth 100000
abbrev cX14_init : ByteArray := prog_14_method_1_code
def yX14_init : MethodName := ⟨RX14, "<init>", "(LBrassInspector$Round;LBrassInspector$Round$Trader;)V"⟩
def dkwX14_init_0 : List UInt8 := [42, 43, 181, 0, 3, 42, 183, 0, 9, 42, 44, 181, 0, 15, 177]
abbrev dktX14_init_0 : List UInt8 := dkwX14_init_0 ++ []
theorem dksX14_init_0 : cX14_init.data.toList.drop 0 = dktX14_init_0 := by decide +kernel
theorem dX14_init_0 : decode cX14_init 0 = .ok (.aload_n 0, 1) := dk_42 (dk_at dksX14_init_0 0 rfl rfl)
theorem dX14_init_1 : decode cX14_init 1 = .ok (.aload_n 1, 1) := dk_43 (dk_at dksX14_init_0 1 rfl rfl)
theorem dX14_init_2 : decode cX14_init 2 = .ok (.putfield 3, 3) := dk_181 0 3 (dk_at dksX14_init_0 2 rfl rfl)
theorem dX14_init_5 : decode cX14_init 5 = .ok (.aload_n 0, 1) := dk_42 (dk_at dksX14_init_0 5 rfl rfl)
theorem dX14_init_6 : decode cX14_init 6 = .ok (.invokespecial 9, 3) := dk_183 0 9 (dk_at dksX14_init_0 6 rfl rfl)
theorem dX14_init_9 : decode cX14_init 9 = .ok (.aload_n 0, 1) := dk_42 (dk_at dksX14_init_0 9 rfl rfl)
theorem dX14_init_10 : decode cX14_init 10 = .ok (.aload_n 2, 1) := dk_44 (dk_at dksX14_init_0 10 rfl rfl)
theorem dX14_init_11 : decode cX14_init 11 = .ok (.putfield 15, 3) := dk_181 0 15 (dk_at dksX14_init_0 11 rfl rfl)
theorem dX14_init_14 : decode cX14_init 14 = .ok (.return_, 1) := dk_177 (dk_at dksX14_init_0 14 rfl rfl)
abbrev cX14_days : ByteArray := prog_14_method_2_code
def yX14_days : MethodName := ⟨RX14, "days", "()I"⟩
def dkwX14_days_1 : List UInt8 := [180, 0, 15, 182, 0, 19, 100, 172]
abbrev dktX14_days_1 : List UInt8 := dkwX14_days_1 ++ []
def dkwX14_days_0 : List UInt8 := [42, 180, 0, 15, 182, 0, 19, 2, 160, 0, 8, 18, 27, 167, 0, 18, 42, 180, 0, 3, 180, 0, 28, 42]
abbrev dktX14_days_0 : List UInt8 := dkwX14_days_0 ++ dktX14_days_1
theorem dksX14_days_0 : cX14_days.data.toList.drop 0 = dktX14_days_0 := by decide +kernel
theorem dksX14_days_1 : cX14_days.data.toList.drop 24 = dktX14_days_1 := dk_seg dksX14_days_0 24 rfl rfl
theorem dX14_days_0 : decode cX14_days 0 = .ok (.aload_n 0, 1) := dk_42 (dk_at dksX14_days_0 0 rfl rfl)
theorem dX14_days_1 : decode cX14_days 1 = .ok (.getfield 15, 3) := dk_180 0 15 (dk_at dksX14_days_0 1 rfl rfl)
theorem dX14_days_4 : decode cX14_days 4 = .ok (.invokevirtual 19, 3) := dk_182 0 19 (dk_at dksX14_days_0 4 rfl rfl)
theorem dX14_days_7 : decode cX14_days 7 = .ok (.iconst (-1), 1) := dk_2 (dk_at dksX14_days_0 7 rfl rfl)
theorem dX14_days_8 : decode cX14_days 8 = .ok (.if_icmp .ne 8, 3) := dk_160 0 8 (dk_at dksX14_days_0 8 rfl rfl)
theorem dX14_days_11 : decode cX14_days 11 = .ok (.ldc 27, 2) := dk_18 27 (dk_at dksX14_days_0 11 rfl rfl)
theorem dX14_days_13 : decode cX14_days 13 = .ok (.goto 18, 3) := dk_167 0 18 (dk_at dksX14_days_0 13 rfl rfl)
theorem dX14_days_16 : decode cX14_days 16 = .ok (.aload_n 0, 1) := dk_42 (dk_at dksX14_days_0 16 rfl rfl)
theorem dX14_days_17 : decode cX14_days 17 = .ok (.getfield 3, 3) := dk_180 0 3 (dk_at dksX14_days_0 17 rfl rfl)
theorem dX14_days_20 : decode cX14_days 20 = .ok (.getfield 28, 3) := dk_180 0 28 (dk_at dksX14_days_0 20 rfl rfl)
theorem dX14_days_23 : decode cX14_days 23 = .ok (.aload_n 0, 1) := dk_42 (dk_at dksX14_days_0 23 rfl rfl)
theorem dX14_days_24 : decode cX14_days 24 = .ok (.getfield 15, 3) := dk_180 0 15 (dk_at dksX14_days_1 0 rfl rfl)
theorem dX14_days_27 : decode cX14_days 27 = .ok (.invokevirtual 19, 3) := dk_182 0 19 (dk_at dksX14_days_1 3 rfl rfl)
theorem dX14_days_30 : decode cX14_days 30 = .ok (.isub, 1) := dk_100 (dk_at dksX14_days_1 6 rfl rfl)
theorem dX14_days_31 : decode cX14_days 31 = .ok (.ireturn, 1) := dk_172 (dk_at dksX14_days_1 7 rfl rfl)
