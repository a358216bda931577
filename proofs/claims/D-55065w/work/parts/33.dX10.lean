/-! code and decode rows of X10 (claim/names) -/
set_option maxRecDepth 100000
abbrev cX10_hasNext : ByteArray := prog_16_method_3_code
def yX10_hasNext : MethodName := ⟨RX10, "hasNext", "()Z"⟩
def dkwX10_hasNext_1 : List UInt8 := [167, 0, 4, 3, 172]
abbrev dktX10_hasNext_1 : List UInt8 := dkwX10_hasNext_1 ++ []
def dkwX10_hasNext_0 : List UInt8 := [42, 180, 0, 17, 42, 180, 0, 1, 180, 0, 21, 180, 0, 27, 185, 0, 33, 1, 0, 162, 0, 7, 4]
abbrev dktX10_hasNext_0 : List UInt8 := dkwX10_hasNext_0 ++ dktX10_hasNext_1
theorem dksX10_hasNext_0 : cX10_hasNext.data.toList.drop 0 = dktX10_hasNext_0 := by decide +kernel
theorem dksX10_hasNext_1 : cX10_hasNext.data.toList.drop 23 = dktX10_hasNext_1 := dk_seg dksX10_hasNext_0 23 rfl rfl
theorem dX10_hasNext_0 : decode cX10_hasNext 0 = .ok (.aload_n 0, 1) := dk_42 (dk_at dksX10_hasNext_0 0 rfl rfl)
theorem dX10_hasNext_1 : decode cX10_hasNext 1 = .ok (.getfield 17, 3) := dk_180 0 17 (dk_at dksX10_hasNext_0 1 rfl rfl)
theorem dX10_hasNext_4 : decode cX10_hasNext 4 = .ok (.aload_n 0, 1) := dk_42 (dk_at dksX10_hasNext_0 4 rfl rfl)
theorem dX10_hasNext_5 : decode cX10_hasNext 5 = .ok (.getfield 1, 3) := dk_180 0 1 (dk_at dksX10_hasNext_0 5 rfl rfl)
theorem dX10_hasNext_8 : decode cX10_hasNext 8 = .ok (.getfield 21, 3) := dk_180 0 21 (dk_at dksX10_hasNext_0 8 rfl rfl)
theorem dX10_hasNext_11 : decode cX10_hasNext 11 = .ok (.getfield 27, 3) := dk_180 0 27 (dk_at dksX10_hasNext_0 11 rfl rfl)
theorem dX10_hasNext_14 : decode cX10_hasNext 14 = .ok (.invokeinterface 33 1, 5) := by decide +kernel
theorem dX10_hasNext_19 : decode cX10_hasNext 19 = .ok (.if_icmp .ge 7, 3) := dk_162 0 7 (dk_at dksX10_hasNext_0 19 rfl rfl)
theorem dX10_hasNext_22 : decode cX10_hasNext 22 = .ok (.iconst 1, 1) := dk_4 (dk_at dksX10_hasNext_0 22 rfl rfl)
theorem dX10_hasNext_23 : decode cX10_hasNext 23 = .ok (.goto 4, 3) := dk_167 0 4 (dk_at dksX10_hasNext_1 0 rfl rfl)
theorem dX10_hasNext_26 : decode cX10_hasNext 26 = .ok (.iconst 0, 1) := dk_3 (dk_at dksX10_hasNext_1 3 rfl rfl)
theorem dX10_hasNext_27 : decode cX10_hasNext 27 = .ok (.ireturn, 1) := dk_172 (dk_at dksX10_hasNext_1 4 rfl rfl)
abbrev cX10_next : ByteArray := prog_16_method_5_code
def yX10_next : MethodName := ⟨RX10, "next", "()Ljava/lang/Object;"⟩
theorem dX10_next_0 : decode cX10_next 0 = .ok (.aload_n 0, 1) := by decide +kernel
theorem dX10_next_1 : decode cX10_next 1 = .ok (.invokevirtual 57, 3) := by decide +kernel
theorem dX10_next_4 : decode cX10_next 4 = .ok (.areturn, 1) := by decide +kernel
abbrev cX10_next_2 : ByteArray := prog_16_method_4_code
def yX10_next_2 : MethodName := ⟨RX10, "next", "()LBrassInspector$Round$Trader;"⟩
def dkwX10_next_2_2 : List UInt8 := [182, 0, 13, 181, 0, 17, 43, 176]
abbrev dktX10_next_2_2 : List UInt8 := dkwX10_next_2_2 ++ []
def dkwX10_next_2_1 : List UInt8 := [180, 0, 27, 42, 180, 0, 17, 185, 0, 39, 2, 0, 192, 0, 43, 76, 42, 42, 42, 180, 0, 17, 4, 96]
abbrev dktX10_next_2_1 : List UInt8 := dkwX10_next_2_1 ++ dktX10_next_2_2
def dkwX10_next_2_0 : List UInt8 := [42, 182, 0, 50, 154, 0, 11, 187, 0, 54, 89, 183, 0, 56, 191, 42, 180, 0, 1, 180, 0, 21]
abbrev dktX10_next_2_0 : List UInt8 := dkwX10_next_2_0 ++ dktX10_next_2_1
theorem dksX10_next_2_0 : cX10_next_2.data.toList.drop 0 = dktX10_next_2_0 := by decide +kernel
theorem dksX10_next_2_1 : cX10_next_2.data.toList.drop 22 = dktX10_next_2_1 := dk_seg dksX10_next_2_0 22 rfl rfl
theorem dksX10_next_2_2 : cX10_next_2.data.toList.drop 46 = dktX10_next_2_2 := dk_seg dksX10_next_2_1 24 rfl rfl
theorem dX10_next_2_0 : decode cX10_next_2 0 = .ok (.aload_n 0, 1) := dk_42 (dk_at dksX10_next_2_0 0 rfl rfl)
theorem dX10_next_2_1 : decode cX10_next_2 1 = .ok (.invokevirtual 50, 3) := dk_182 0 50 (dk_at dksX10_next_2_0 1 rfl rfl)
theorem dX10_next_2_4 : decode cX10_next_2 4 = .ok (.ifCond .ne 11, 3) := dk_154 0 11 (dk_at dksX10_next_2_0 4 rfl rfl)
theorem dX10_next_2_7 : decode cX10_next_2 7 = .ok (.new 54, 3) := dk_187 0 54 (dk_at dksX10_next_2_0 7 rfl rfl)
theorem dX10_next_2_10 : decode cX10_next_2 10 = .ok (.dup, 1) := dk_89 (dk_at dksX10_next_2_0 10 rfl rfl)
theorem dX10_next_2_11 : decode cX10_next_2 11 = .ok (.invokespecial 56, 3) := dk_183 0 56 (dk_at dksX10_next_2_0 11 rfl rfl)
theorem dX10_next_2_14 : decode cX10_next_2 14 = .ok (.athrow, 1) := dk_191 (dk_at dksX10_next_2_0 14 rfl rfl)
theorem dX10_next_2_15 : decode cX10_next_2 15 = .ok (.aload_n 0, 1) := dk_42 (dk_at dksX10_next_2_0 15 rfl rfl)
theorem dX10_next_2_16 : decode cX10_next_2 16 = .ok (.getfield 1, 3) := dk_180 0 1 (dk_at dksX10_next_2_0 16 rfl rfl)
theorem dX10_next_2_19 : decode cX10_next_2 19 = .ok (.getfield 21, 3) := dk_180 0 21 (dk_at dksX10_next_2_0 19 rfl rfl)
theorem dX10_next_2_22 : decode cX10_next_2 22 = .ok (.getfield 27, 3) := dk_180 0 27 (dk_at dksX10_next_2_1 0 rfl rfl)
theorem dX10_next_2_25 : decode cX10_next_2 25 = .ok (.aload_n 0, 1) := dk_42 (dk_at dksX10_next_2_1 3 rfl rfl)
theorem dX10_next_2_26 : decode cX10_next_2 26 = .ok (.getfield 17, 3) := dk_180 0 17 (dk_at dksX10_next_2_1 4 rfl rfl)
theorem dX10_next_2_29 : decode cX10_next_2 29 = .ok (.invokeinterface 39 2, 5) := by decide +kernel
theorem dX10_next_2_34 : decode cX10_next_2 34 = .ok (.checkcast 43, 3) := dk_192 0 43 (dk_at dksX10_next_2_1 12 rfl rfl)
theorem dX10_next_2_37 : decode cX10_next_2 37 = .ok (.astore_n 1, 1) := dk_76 (dk_at dksX10_next_2_1 15 rfl rfl)
theorem dX10_next_2_38 : decode cX10_next_2 38 = .ok (.aload_n 0, 1) := dk_42 (dk_at dksX10_next_2_1 16 rfl rfl)
theorem dX10_next_2_39 : decode cX10_next_2 39 = .ok (.aload_n 0, 1) := dk_42 (dk_at dksX10_next_2_1 17 rfl rfl)
theorem dX10_next_2_40 : decode cX10_next_2 40 = .ok (.aload_n 0, 1) := dk_42 (dk_at dksX10_next_2_1 18 rfl rfl)
theorem dX10_next_2_41 : decode cX10_next_2 41 = .ok (.getfield 17, 3) := dk_180 0 17 (dk_at dksX10_next_2_1 19 rfl rfl)
theorem dX10_next_2_44 : decode cX10_next_2 44 = .ok (.iconst 1, 1) := dk_4 (dk_at dksX10_next_2_1 22 rfl rfl)
theorem dX10_next_2_45 : decode cX10_next_2 45 = .ok (.iadd, 1) := dk_96 (dk_at dksX10_next_2_1 23 rfl rfl)
theorem dX10_next_2_46 : decode cX10_next_2 46 = .ok (.invokevirtual 13, 3) := dk_182 0 13 (dk_at dksX10_next_2_2 0 rfl rfl)
theorem dX10_next_2_49 : decode cX10_next_2 49 = .ok (.putfield 17, 3) := dk_181 0 17 (dk_at dksX10_next_2_2 3 rfl rfl)
theorem dX10_next_2_52 : decode cX10_next_2 52 = .ok (.aload_n 1, 1) := dk_43 (dk_at dksX10_next_2_2 6 rfl rfl)
theorem dX10_next_2_53 : decode cX10_next_2 53 = .ok (.areturn, 1) := dk_176 (dk_at dksX10_next_2_2 7 rfl rfl)
abbrev cX10_nextFrom : ByteArray := prog_16_method_2_code
def yX10_nextFrom : MethodName := ⟨RX10, "nextFrom", "(I)I"⟩
def dkwX10_nextFrom_2 : List UInt8 := [180, 0, 1, 180, 0, 48, 159, 0, 9, 132, 2, 1, 167, 255, 202, 28, 172]
abbrev dktX10_nextFrom_2 : List UInt8 := dkwX10_nextFrom_2 ++ []
def dkwX10_nextFrom_1 : List UInt8 := [180, 0, 1, 180, 0, 21, 180, 0, 27, 28, 185, 0, 39, 2, 0, 192, 0, 43, 182, 0, 45, 42]
abbrev dktX10_nextFrom_1 : List UInt8 := dkwX10_nextFrom_1 ++ dktX10_nextFrom_2
def dkwX10_nextFrom_0 : List UInt8 := [27, 61, 28, 42, 180, 0, 1, 180, 0, 21, 180, 0, 27, 185, 0, 33, 1, 0, 162, 0, 41, 42]
abbrev dktX10_nextFrom_0 : List UInt8 := dkwX10_nextFrom_0 ++ dktX10_nextFrom_1
theorem dksX10_nextFrom_0 : cX10_nextFrom.data.toList.drop 0 = dktX10_nextFrom_0 := by decide +kernel
theorem dksX10_nextFrom_1 : cX10_nextFrom.data.toList.drop 22 = dktX10_nextFrom_1 := dk_seg dksX10_nextFrom_0 22 rfl rfl
theorem dksX10_nextFrom_2 : cX10_nextFrom.data.toList.drop 44 = dktX10_nextFrom_2 := dk_seg dksX10_nextFrom_1 22 rfl rfl
theorem dX10_nextFrom_0 : decode cX10_nextFrom 0 = .ok (.iload_n 1, 1) := dk_27 (dk_at dksX10_nextFrom_0 0 rfl rfl)
theorem dX10_nextFrom_1 : decode cX10_nextFrom 1 = .ok (.istore_n 2, 1) := dk_61 (dk_at dksX10_nextFrom_0 1 rfl rfl)
theorem dX10_nextFrom_2 : decode cX10_nextFrom 2 = .ok (.iload_n 2, 1) := dk_28 (dk_at dksX10_nextFrom_0 2 rfl rfl)
theorem dX10_nextFrom_3 : decode cX10_nextFrom 3 = .ok (.aload_n 0, 1) := dk_42 (dk_at dksX10_nextFrom_0 3 rfl rfl)
theorem dX10_nextFrom_4 : decode cX10_nextFrom 4 = .ok (.getfield 1, 3) := dk_180 0 1 (dk_at dksX10_nextFrom_0 4 rfl rfl)
theorem dX10_nextFrom_7 : decode cX10_nextFrom 7 = .ok (.getfield 21, 3) := dk_180 0 21 (dk_at dksX10_nextFrom_0 7 rfl rfl)
theorem dX10_nextFrom_10 : decode cX10_nextFrom 10 = .ok (.getfield 27, 3) := dk_180 0 27 (dk_at dksX10_nextFrom_0 10 rfl rfl)
theorem dX10_nextFrom_13 : decode cX10_nextFrom 13 = .ok (.invokeinterface 33 1, 5) := by decide +kernel
theorem dX10_nextFrom_18 : decode cX10_nextFrom 18 = .ok (.if_icmp .ge 41, 3) := dk_162 0 41 (dk_at dksX10_nextFrom_0 18 rfl rfl)
theorem dX10_nextFrom_21 : decode cX10_nextFrom 21 = .ok (.aload_n 0, 1) := dk_42 (dk_at dksX10_nextFrom_0 21 rfl rfl)
theorem dX10_nextFrom_22 : decode cX10_nextFrom 22 = .ok (.getfield 1, 3) := dk_180 0 1 (dk_at dksX10_nextFrom_1 0 rfl rfl)
theorem dX10_nextFrom_25 : decode cX10_nextFrom 25 = .ok (.getfield 21, 3) := dk_180 0 21 (dk_at dksX10_nextFrom_1 3 rfl rfl)
theorem dX10_nextFrom_28 : decode cX10_nextFrom 28 = .ok (.getfield 27, 3) := dk_180 0 27 (dk_at dksX10_nextFrom_1 6 rfl rfl)
theorem dX10_nextFrom_31 : decode cX10_nextFrom 31 = .ok (.iload_n 2, 1) := dk_28 (dk_at dksX10_nextFrom_1 9 rfl rfl)
theorem dX10_nextFrom_32 : decode cX10_nextFrom 32 = .ok (.invokeinterface 39 2, 5) := by decide +kernel
theorem dX10_nextFrom_37 : decode cX10_nextFrom 37 = .ok (.checkcast 43, 3) := dk_192 0 43 (dk_at dksX10_nextFrom_1 15 rfl rfl)
theorem dX10_nextFrom_40 : decode cX10_nextFrom 40 = .ok (.invokevirtual 45, 3) := dk_182 0 45 (dk_at dksX10_nextFrom_1 18 rfl rfl)
theorem dX10_nextFrom_43 : decode cX10_nextFrom 43 = .ok (.aload_n 0, 1) := dk_42 (dk_at dksX10_nextFrom_1 21 rfl rfl)
theorem dX10_nextFrom_44 : decode cX10_nextFrom 44 = .ok (.getfield 1, 3) := dk_180 0 1 (dk_at dksX10_nextFrom_2 0 rfl rfl)
theorem dX10_nextFrom_47 : decode cX10_nextFrom 47 = .ok (.getfield 48, 3) := dk_180 0 48 (dk_at dksX10_nextFrom_2 3 rfl rfl)
theorem dX10_nextFrom_50 : decode cX10_nextFrom 50 = .ok (.if_icmp .eq 9, 3) := dk_159 0 9 (dk_at dksX10_nextFrom_2 6 rfl rfl)
theorem dX10_nextFrom_53 : decode cX10_nextFrom 53 = .ok (.iinc 2 1, 3) := dk_132 2 1 (dk_at dksX10_nextFrom_2 9 rfl rfl)
theorem dX10_nextFrom_56 : decode cX10_nextFrom 56 = .ok (.goto (-54), 3) := dk_167 255 202 (dk_at dksX10_nextFrom_2 12 rfl rfl)
theorem dX10_nextFrom_59 : decode cX10_nextFrom 59 = .ok (.iload_n 2, 1) := dk_28 (dk_at dksX10_nextFrom_2 15 rfl rfl)
theorem dX10_nextFrom_60 : decode cX10_nextFrom 60 = .ok (.ireturn, 1) := dk_172 (dk_at dksX10_nextFrom_2 16 rfl rfl)
abbrev cX10_init : ByteArray := prog_16_method_1_code
def yX10_init : MethodName := ⟨RX10, "<init>", "(LBrassInspector$Round$OfFair;)V"⟩
def dkwX10_init_0 : List UInt8 := [42, 43, 181, 0, 1, 42, 183, 0, 7, 42, 42, 3, 182, 0, 13, 181, 0, 17, 177]
abbrev dktX10_init_0 : List UInt8 := dkwX10_init_0 ++ []
theorem dksX10_init_0 : cX10_init.data.toList.drop 0 = dktX10_init_0 := by decide +kernel
theorem dX10_init_0 : decode cX10_init 0 = .ok (.aload_n 0, 1) := dk_42 (dk_at dksX10_init_0 0 rfl rfl)
theorem dX10_init_1 : decode cX10_init 1 = .ok (.aload_n 1, 1) := dk_43 (dk_at dksX10_init_0 1 rfl rfl)
theorem dX10_init_2 : decode cX10_init 2 = .ok (.putfield 1, 3) := dk_181 0 1 (dk_at dksX10_init_0 2 rfl rfl)
theorem dX10_init_5 : decode cX10_init 5 = .ok (.aload_n 0, 1) := dk_42 (dk_at dksX10_init_0 5 rfl rfl)
theorem dX10_init_6 : decode cX10_init 6 = .ok (.invokespecial 7, 3) := dk_183 0 7 (dk_at dksX10_init_0 6 rfl rfl)
theorem dX10_init_9 : decode cX10_init 9 = .ok (.aload_n 0, 1) := dk_42 (dk_at dksX10_init_0 9 rfl rfl)
theorem dX10_init_10 : decode cX10_init 10 = .ok (.aload_n 0, 1) := dk_42 (dk_at dksX10_init_0 10 rfl rfl)
theorem dX10_init_11 : decode cX10_init 11 = .ok (.iconst 0, 1) := dk_3 (dk_at dksX10_init_0 11 rfl rfl)
theorem dX10_init_12 : decode cX10_init 12 = .ok (.invokevirtual 13, 3) := dk_182 0 13 (dk_at dksX10_init_0 12 rfl rfl)
theorem dX10_init_15 : decode cX10_init 15 = .ok (.putfield 17, 3) := dk_181 0 17 (dk_at dksX10_init_0 15 rfl rfl)
theorem dX10_init_18 : decode cX10_init 18 = .ok (.return_, 1) := dk_177 (dk_at dksX10_init_0 18 rfl rfl)
