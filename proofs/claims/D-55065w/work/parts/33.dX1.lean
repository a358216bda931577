/-! code and decode rows of X1 (claim/names) -/
set_option maxRecDepth 100000
abbrev cX1_init : ByteArray := prog_1_method_5_code
def yX1_init : MethodName := ⟨RX1, "<init>", "()V"⟩
def dkwX1_init_2 : List UInt8 := [181, 0, 45, 177]
abbrev dktX1_init_2 : List UInt8 := dkwX1_init_2 ++ []
def dkwX1_init_1 : List UInt8 := [181, 0, 28, 42, 187, 0, 32, 89, 183, 0, 34, 181, 0, 35, 42, 2, 181, 0, 39, 42, 18, 43]
abbrev dktX1_init_1 : List UInt8 := dkwX1_init_1 ++ dktX1_init_2
def dkwX1_init_0 : List UInt8 := [42, 183, 0, 13, 42, 187, 0, 18, 89, 183, 0, 20, 181, 0, 21, 42, 187, 0, 25, 89, 183, 0, 27]
abbrev dktX1_init_0 : List UInt8 := dkwX1_init_0 ++ dktX1_init_1
theorem dksX1_init_0 : cX1_init.data.toList.drop 0 = dktX1_init_0 := by decide +kernel
theorem dksX1_init_1 : cX1_init.data.toList.drop 23 = dktX1_init_1 := dk_seg dksX1_init_0 23 rfl rfl
theorem dksX1_init_2 : cX1_init.data.toList.drop 45 = dktX1_init_2 := dk_seg dksX1_init_1 22 rfl rfl
theorem dX1_init_0 : decode cX1_init 0 = .ok (.aload_n 0, 1) := dk_42 (dk_at dksX1_init_0 0 rfl rfl)
theorem dX1_init_1 : decode cX1_init 1 = .ok (.invokespecial 13, 3) := dk_183 0 13 (dk_at dksX1_init_0 1 rfl rfl)
theorem dX1_init_4 : decode cX1_init 4 = .ok (.aload_n 0, 1) := dk_42 (dk_at dksX1_init_0 4 rfl rfl)
theorem dX1_init_5 : decode cX1_init 5 = .ok (.new 18, 3) := dk_187 0 18 (dk_at dksX1_init_0 5 rfl rfl)
theorem dX1_init_8 : decode cX1_init 8 = .ok (.dup, 1) := dk_89 (dk_at dksX1_init_0 8 rfl rfl)
theorem dX1_init_9 : decode cX1_init 9 = .ok (.invokespecial 20, 3) := dk_183 0 20 (dk_at dksX1_init_0 9 rfl rfl)
theorem dX1_init_12 : decode cX1_init 12 = .ok (.putfield 21, 3) := dk_181 0 21 (dk_at dksX1_init_0 12 rfl rfl)
theorem dX1_init_15 : decode cX1_init 15 = .ok (.aload_n 0, 1) := dk_42 (dk_at dksX1_init_0 15 rfl rfl)
theorem dX1_init_16 : decode cX1_init 16 = .ok (.new 25, 3) := dk_187 0 25 (dk_at dksX1_init_0 16 rfl rfl)
theorem dX1_init_19 : decode cX1_init 19 = .ok (.dup, 1) := dk_89 (dk_at dksX1_init_0 19 rfl rfl)
theorem dX1_init_20 : decode cX1_init 20 = .ok (.invokespecial 27, 3) := dk_183 0 27 (dk_at dksX1_init_0 20 rfl rfl)
theorem dX1_init_23 : decode cX1_init 23 = .ok (.putfield 28, 3) := dk_181 0 28 (dk_at dksX1_init_1 0 rfl rfl)
theorem dX1_init_26 : decode cX1_init 26 = .ok (.aload_n 0, 1) := dk_42 (dk_at dksX1_init_1 3 rfl rfl)
theorem dX1_init_27 : decode cX1_init 27 = .ok (.new 32, 3) := dk_187 0 32 (dk_at dksX1_init_1 4 rfl rfl)
theorem dX1_init_30 : decode cX1_init 30 = .ok (.dup, 1) := dk_89 (dk_at dksX1_init_1 7 rfl rfl)
theorem dX1_init_31 : decode cX1_init 31 = .ok (.invokespecial 34, 3) := dk_183 0 34 (dk_at dksX1_init_1 8 rfl rfl)
theorem dX1_init_34 : decode cX1_init 34 = .ok (.putfield 35, 3) := dk_181 0 35 (dk_at dksX1_init_1 11 rfl rfl)
theorem dX1_init_37 : decode cX1_init 37 = .ok (.aload_n 0, 1) := dk_42 (dk_at dksX1_init_1 14 rfl rfl)
theorem dX1_init_38 : decode cX1_init 38 = .ok (.iconst (-1), 1) := dk_2 (dk_at dksX1_init_1 15 rfl rfl)
theorem dX1_init_39 : decode cX1_init 39 = .ok (.putfield 39, 3) := dk_181 0 39 (dk_at dksX1_init_1 16 rfl rfl)
theorem dX1_init_42 : decode cX1_init 42 = .ok (.aload_n 0, 1) := dk_42 (dk_at dksX1_init_1 19 rfl rfl)
theorem dX1_init_43 : decode cX1_init 43 = .ok (.ldc 43, 2) := dk_18 43 (dk_at dksX1_init_1 20 rfl rfl)
theorem dX1_init_45 : decode cX1_init 45 = .ok (.putfield 45, 3) := dk_181 0 45 (dk_at dksX1_init_2 0 rfl rfl)
theorem dX1_init_48 : decode cX1_init 48 = .ok (.return_, 1) := dk_177 (dk_at dksX1_init_2 3 rfl rfl)
abbrev cX1_finesAgain : ByteArray := prog_1_method_48_code
def yX1_finesAgain : MethodName := ⟨RX1, "finesAgain", "()I"⟩
def dkwX1_finesAgain_0 : List UInt8 := [42, 180, 0, 21, 182, 1, 120, 172]
abbrev dktX1_finesAgain_0 : List UInt8 := dkwX1_finesAgain_0 ++ []
theorem dksX1_finesAgain_0 : cX1_finesAgain.data.toList.drop 0 = dktX1_finesAgain_0 := by decide +kernel
theorem dX1_finesAgain_0 : decode cX1_finesAgain 0 = .ok (.aload_n 0, 1) := dk_42 (dk_at dksX1_finesAgain_0 0 rfl rfl)
theorem dX1_finesAgain_1 : decode cX1_finesAgain 1 = .ok (.getfield 21, 3) := dk_180 0 21 (dk_at dksX1_finesAgain_0 1 rfl rfl)
theorem dX1_finesAgain_4 : decode cX1_finesAgain 4 = .ok (.invokevirtual 376, 3) := dk_182 1 120 (dk_at dksX1_finesAgain_0 4 rfl rfl)
theorem dX1_finesAgain_7 : decode cX1_finesAgain 7 = .ok (.ireturn, 1) := dk_172 (dk_at dksX1_finesAgain_0 7 rfl rfl)
abbrev cX1_sum : ByteArray := prog_1_method_3_code
def yX1_sum : MethodName := ⟨RX1, "sum", "([I)I"⟩
def dkwX1_sum_1 : List UInt8 := [21, 5, 96, 60, 132, 4, 1, 167, 255, 236, 27, 172]
abbrev dktX1_sum_1 : List UInt8 := dkwX1_sum_1 ++ []
def dkwX1_sum_0 : List UInt8 := [3, 60, 42, 77, 44, 190, 62, 3, 54, 4, 21, 4, 29, 162, 0, 20, 44, 21, 4, 46, 54, 5, 27]
abbrev dktX1_sum_0 : List UInt8 := dkwX1_sum_0 ++ dktX1_sum_1
theorem dksX1_sum_0 : cX1_sum.data.toList.drop 0 = dktX1_sum_0 := by decide +kernel
theorem dksX1_sum_1 : cX1_sum.data.toList.drop 23 = dktX1_sum_1 := dk_seg dksX1_sum_0 23 rfl rfl
theorem dX1_sum_0 : decode cX1_sum 0 = .ok (.iconst 0, 1) := dk_3 (dk_at dksX1_sum_0 0 rfl rfl)
theorem dX1_sum_1 : decode cX1_sum 1 = .ok (.istore_n 1, 1) := dk_60 (dk_at dksX1_sum_0 1 rfl rfl)
theorem dX1_sum_2 : decode cX1_sum 2 = .ok (.aload_n 0, 1) := dk_42 (dk_at dksX1_sum_0 2 rfl rfl)
theorem dX1_sum_3 : decode cX1_sum 3 = .ok (.astore_n 2, 1) := dk_77 (dk_at dksX1_sum_0 3 rfl rfl)
theorem dX1_sum_4 : decode cX1_sum 4 = .ok (.aload_n 2, 1) := dk_44 (dk_at dksX1_sum_0 4 rfl rfl)
theorem dX1_sum_5 : decode cX1_sum 5 = .ok (.arraylength, 1) := dk_190 (dk_at dksX1_sum_0 5 rfl rfl)
theorem dX1_sum_6 : decode cX1_sum 6 = .ok (.istore_n 3, 1) := dk_62 (dk_at dksX1_sum_0 6 rfl rfl)
theorem dX1_sum_7 : decode cX1_sum 7 = .ok (.iconst 0, 1) := dk_3 (dk_at dksX1_sum_0 7 rfl rfl)
theorem dX1_sum_8 : decode cX1_sum 8 = .ok (.istore 4, 2) := dk_54 4 (dk_at dksX1_sum_0 8 rfl rfl)
theorem dX1_sum_10 : decode cX1_sum 10 = .ok (.iload 4, 2) := dk_21 4 (dk_at dksX1_sum_0 10 rfl rfl)
theorem dX1_sum_12 : decode cX1_sum 12 = .ok (.iload_n 3, 1) := dk_29 (dk_at dksX1_sum_0 12 rfl rfl)
theorem dX1_sum_13 : decode cX1_sum 13 = .ok (.if_icmp .ge 20, 3) := dk_162 0 20 (dk_at dksX1_sum_0 13 rfl rfl)
theorem dX1_sum_16 : decode cX1_sum 16 = .ok (.aload_n 2, 1) := dk_44 (dk_at dksX1_sum_0 16 rfl rfl)
theorem dX1_sum_17 : decode cX1_sum 17 = .ok (.iload 4, 2) := dk_21 4 (dk_at dksX1_sum_0 17 rfl rfl)
theorem dX1_sum_19 : decode cX1_sum 19 = .ok (.iaload, 1) := dk_46 (dk_at dksX1_sum_0 19 rfl rfl)
theorem dX1_sum_20 : decode cX1_sum 20 = .ok (.istore 5, 2) := dk_54 5 (dk_at dksX1_sum_0 20 rfl rfl)
theorem dX1_sum_22 : decode cX1_sum 22 = .ok (.iload_n 1, 1) := dk_27 (dk_at dksX1_sum_0 22 rfl rfl)
theorem dX1_sum_23 : decode cX1_sum 23 = .ok (.iload 5, 2) := dk_21 5 (dk_at dksX1_sum_1 0 rfl rfl)
theorem dX1_sum_25 : decode cX1_sum 25 = .ok (.iadd, 1) := dk_96 (dk_at dksX1_sum_1 2 rfl rfl)
theorem dX1_sum_26 : decode cX1_sum 26 = .ok (.istore_n 1, 1) := dk_60 (dk_at dksX1_sum_1 3 rfl rfl)
theorem dX1_sum_27 : decode cX1_sum 27 = .ok (.iinc 4 1, 3) := dk_132 4 1 (dk_at dksX1_sum_1 4 rfl rfl)
theorem dX1_sum_30 : decode cX1_sum 30 = .ok (.goto (-20), 3) := dk_167 255 236 (dk_at dksX1_sum_1 7 rfl rfl)
theorem dX1_sum_33 : decode cX1_sum 33 = .ok (.iload_n 1, 1) := dk_27 (dk_at dksX1_sum_1 10 rfl rfl)
theorem dX1_sum_34 : decode cX1_sum 34 = .ok (.ireturn, 1) := dk_172 (dk_at dksX1_sum_1 11 rfl rfl)
abbrev cX1_save : ByteArray := prog_1_method_53_code
def yX1_save : MethodName := ⟨RX1, "save", "()I"⟩
def dkwX1_save_0 : List UInt8 := [42, 42, 180, 0, 21, 181, 1, 135, 42, 180, 0, 21, 182, 1, 98, 172]
abbrev dktX1_save_0 : List UInt8 := dkwX1_save_0 ++ []
theorem dksX1_save_0 : cX1_save.data.toList.drop 0 = dktX1_save_0 := by decide +kernel
theorem dX1_save_0 : decode cX1_save 0 = .ok (.aload_n 0, 1) := dk_42 (dk_at dksX1_save_0 0 rfl rfl)
theorem dX1_save_1 : decode cX1_save 1 = .ok (.aload_n 0, 1) := dk_42 (dk_at dksX1_save_0 1 rfl rfl)
theorem dX1_save_2 : decode cX1_save 2 = .ok (.getfield 21, 3) := dk_180 0 21 (dk_at dksX1_save_0 2 rfl rfl)
theorem dX1_save_5 : decode cX1_save 5 = .ok (.putfield 391, 3) := dk_181 1 135 (dk_at dksX1_save_0 5 rfl rfl)
theorem dX1_save_8 : decode cX1_save 8 = .ok (.aload_n 0, 1) := dk_42 (dk_at dksX1_save_0 8 rfl rfl)
theorem dX1_save_9 : decode cX1_save 9 = .ok (.getfield 21, 3) := dk_180 0 21 (dk_at dksX1_save_0 9 rfl rfl)
theorem dX1_save_12 : decode cX1_save 12 = .ok (.invokevirtual 354, 3) := dk_182 1 98 (dk_at dksX1_save_0 12 rfl rfl)
theorem dX1_save_15 : decode cX1_save 15 = .ok (.ireturn, 1) := dk_172 (dk_at dksX1_save_0 15 rfl rfl)
abbrev cX1_rate : ByteArray := prog_1_method_17_code
def yX1_rate : MethodName := ⟨RX1, "rate", "(II)I"⟩
def dkwX1_rate_1 : List UInt8 := [183, 0, 142, 182, 0, 145, 172]
abbrev dktX1_rate_1 : List UInt8 := dkwX1_rate_1 ++ []
def dkwX1_rate_0 : List UInt8 := [27, 184, 0, 133, 28, 4, 16, 9, 184, 0, 107, 184, 0, 137, 42, 187, 0, 140, 89, 42, 27, 28]
abbrev dktX1_rate_0 : List UInt8 := dkwX1_rate_0 ++ dktX1_rate_1
theorem dksX1_rate_0 : cX1_rate.data.toList.drop 0 = dktX1_rate_0 := by decide +kernel
theorem dksX1_rate_1 : cX1_rate.data.toList.drop 22 = dktX1_rate_1 := dk_seg dksX1_rate_0 22 rfl rfl
theorem dX1_rate_0 : decode cX1_rate 0 = .ok (.iload_n 1, 1) := dk_27 (dk_at dksX1_rate_0 0 rfl rfl)
theorem dX1_rate_1 : decode cX1_rate 1 = .ok (.invokestatic 133, 3) := dk_184 0 133 (dk_at dksX1_rate_0 1 rfl rfl)
theorem dX1_rate_4 : decode cX1_rate 4 = .ok (.iload_n 2, 1) := dk_28 (dk_at dksX1_rate_0 4 rfl rfl)
theorem dX1_rate_5 : decode cX1_rate 5 = .ok (.iconst 1, 1) := dk_4 (dk_at dksX1_rate_0 5 rfl rfl)
theorem dX1_rate_6 : decode cX1_rate 6 = .ok (.bipush 9, 2) := dk_16 9 (dk_at dksX1_rate_0 6 rfl rfl)
theorem dX1_rate_8 : decode cX1_rate 8 = .ok (.invokestatic 107, 3) := dk_184 0 107 (dk_at dksX1_rate_0 8 rfl rfl)
theorem dX1_rate_11 : decode cX1_rate 11 = .ok (.invokestatic 137, 3) := dk_184 0 137 (dk_at dksX1_rate_0 11 rfl rfl)
theorem dX1_rate_14 : decode cX1_rate 14 = .ok (.aload_n 0, 1) := dk_42 (dk_at dksX1_rate_0 14 rfl rfl)
theorem dX1_rate_15 : decode cX1_rate 15 = .ok (.new 140, 3) := dk_187 0 140 (dk_at dksX1_rate_0 15 rfl rfl)
theorem dX1_rate_18 : decode cX1_rate 18 = .ok (.dup, 1) := dk_89 (dk_at dksX1_rate_0 18 rfl rfl)
theorem dX1_rate_19 : decode cX1_rate 19 = .ok (.aload_n 0, 1) := dk_42 (dk_at dksX1_rate_0 19 rfl rfl)
theorem dX1_rate_20 : decode cX1_rate 20 = .ok (.iload_n 1, 1) := dk_27 (dk_at dksX1_rate_0 20 rfl rfl)
theorem dX1_rate_21 : decode cX1_rate 21 = .ok (.iload_n 2, 1) := dk_28 (dk_at dksX1_rate_0 21 rfl rfl)
theorem dX1_rate_22 : decode cX1_rate 22 = .ok (.invokespecial 142, 3) := dk_183 0 142 (dk_at dksX1_rate_1 0 rfl rfl)
theorem dX1_rate_25 : decode cX1_rate 25 = .ok (.invokevirtual 145, 3) := dk_182 0 145 (dk_at dksX1_rate_1 3 rfl rfl)
theorem dX1_rate_28 : decode cX1_rate 28 = .ok (.ireturn, 1) := dk_172 (dk_at dksX1_rate_1 6 rfl rfl)
abbrev cX1_requireFair : ByteArray := prog_1_method_14_code
def yX1_requireFair : MethodName := ⟨RX1, "requireFair", "(I)V"⟩
def dkwX1_requireFair_0 : List UInt8 := [26, 3, 7, 184, 0, 107, 184, 0, 111, 177]
abbrev dktX1_requireFair_0 : List UInt8 := dkwX1_requireFair_0 ++ []
theorem dksX1_requireFair_0 : cX1_requireFair.data.toList.drop 0 = dktX1_requireFair_0 := by decide +kernel
theorem dX1_requireFair_0 : decode cX1_requireFair 0 = .ok (.iload_n 0, 1) := dk_26 (dk_at dksX1_requireFair_0 0 rfl rfl)
theorem dX1_requireFair_1 : decode cX1_requireFair 1 = .ok (.iconst 0, 1) := dk_3 (dk_at dksX1_requireFair_0 1 rfl rfl)
theorem dX1_requireFair_2 : decode cX1_requireFair 2 = .ok (.iconst 4, 1) := dk_7 (dk_at dksX1_requireFair_0 2 rfl rfl)
theorem dX1_requireFair_3 : decode cX1_requireFair 3 = .ok (.invokestatic 107, 3) := dk_184 0 107 (dk_at dksX1_requireFair_0 3 rfl rfl)
theorem dX1_requireFair_6 : decode cX1_requireFair 6 = .ok (.invokestatic 111, 3) := dk_184 0 111 (dk_at dksX1_requireFair_0 6 rfl rfl)
theorem dX1_requireFair_9 : decode cX1_requireFair 9 = .ok (.return_, 1) := dk_177 (dk_at dksX1_requireFair_0 9 rfl rfl)
abbrev cX1_isIn : ByteArray := prog_1_method_2_code
def yX1_isIn : MethodName := ⟨RX1, "isIn", "(III)Z"⟩
def dkwX1_isIn_0 : List UInt8 := [26, 27, 161, 0, 12, 26, 28, 163, 0, 7, 4, 167, 0, 4, 3, 172]
abbrev dktX1_isIn_0 : List UInt8 := dkwX1_isIn_0 ++ []
theorem dksX1_isIn_0 : cX1_isIn.data.toList.drop 0 = dktX1_isIn_0 := by decide +kernel
theorem dX1_isIn_0 : decode cX1_isIn 0 = .ok (.iload_n 0, 1) := dk_26 (dk_at dksX1_isIn_0 0 rfl rfl)
theorem dX1_isIn_1 : decode cX1_isIn 1 = .ok (.iload_n 1, 1) := dk_27 (dk_at dksX1_isIn_0 1 rfl rfl)
theorem dX1_isIn_2 : decode cX1_isIn 2 = .ok (.if_icmp .lt 12, 3) := dk_161 0 12 (dk_at dksX1_isIn_0 2 rfl rfl)
theorem dX1_isIn_5 : decode cX1_isIn 5 = .ok (.iload_n 0, 1) := dk_26 (dk_at dksX1_isIn_0 5 rfl rfl)
theorem dX1_isIn_6 : decode cX1_isIn 6 = .ok (.iload_n 2, 1) := dk_28 (dk_at dksX1_isIn_0 6 rfl rfl)
theorem dX1_isIn_7 : decode cX1_isIn 7 = .ok (.if_icmp .gt 7, 3) := dk_163 0 7 (dk_at dksX1_isIn_0 7 rfl rfl)
theorem dX1_isIn_10 : decode cX1_isIn 10 = .ok (.iconst 1, 1) := dk_4 (dk_at dksX1_isIn_0 10 rfl rfl)
theorem dX1_isIn_11 : decode cX1_isIn 11 = .ok (.goto 4, 3) := dk_167 0 4 (dk_at dksX1_isIn_0 11 rfl rfl)
theorem dX1_isIn_14 : decode cX1_isIn 14 = .ok (.iconst 0, 1) := dk_3 (dk_at dksX1_isIn_0 14 rfl rfl)
theorem dX1_isIn_15 : decode cX1_isIn 15 = .ok (.ireturn, 1) := dk_172 (dk_at dksX1_isIn_0 15 rfl rfl)
abbrev cX1_requireIndex : ByteArray := prog_1_method_7_code
def yX1_requireIndex : MethodName := ⟨RX1, "requireIndex", "(Z)V"⟩
def dkwX1_requireIndex_0 : List UInt8 := [26, 154, 0, 11, 187, 0, 52, 89, 183, 0, 54, 191, 177]
abbrev dktX1_requireIndex_0 : List UInt8 := dkwX1_requireIndex_0 ++ []
theorem dksX1_requireIndex_0 : cX1_requireIndex.data.toList.drop 0 = dktX1_requireIndex_0 := by decide +kernel
theorem dX1_requireIndex_0 : decode cX1_requireIndex 0 = .ok (.iload_n 0, 1) := dk_26 (dk_at dksX1_requireIndex_0 0 rfl rfl)
theorem dX1_requireIndex_1 : decode cX1_requireIndex 1 = .ok (.ifCond .ne 11, 3) := dk_154 0 11 (dk_at dksX1_requireIndex_0 1 rfl rfl)
theorem dX1_requireIndex_4 : decode cX1_requireIndex 4 = .ok (.new 52, 3) := dk_187 0 52 (dk_at dksX1_requireIndex_0 4 rfl rfl)
theorem dX1_requireIndex_7 : decode cX1_requireIndex 7 = .ok (.dup, 1) := dk_89 (dk_at dksX1_requireIndex_0 7 rfl rfl)
theorem dX1_requireIndex_8 : decode cX1_requireIndex 8 = .ok (.invokespecial 54, 3) := dk_183 0 54 (dk_at dksX1_requireIndex_0 8 rfl rfl)
theorem dX1_requireIndex_11 : decode cX1_requireIndex 11 = .ok (.athrow, 1) := dk_191 (dk_at dksX1_requireIndex_0 11 rfl rfl)
theorem dX1_requireIndex_12 : decode cX1_requireIndex 12 = .ok (.return_, 1) := dk_177 (dk_at dksX1_requireIndex_0 12 rfl rfl)
abbrev cX1_require : ByteArray := prog_1_method_6_code
def yX1_require : MethodName := ⟨RX1, "require", "(Z)V"⟩
def dkwX1_require_0 : List UInt8 := [26, 154, 0, 11, 187, 0, 49, 89, 183, 0, 51, 191, 177]
abbrev dktX1_require_0 : List UInt8 := dkwX1_require_0 ++ []
theorem dksX1_require_0 : cX1_require.data.toList.drop 0 = dktX1_require_0 := by decide +kernel
theorem dX1_require_0 : decode cX1_require 0 = .ok (.iload_n 0, 1) := dk_26 (dk_at dksX1_require_0 0 rfl rfl)
theorem dX1_require_1 : decode cX1_require 1 = .ok (.ifCond .ne 11, 3) := dk_154 0 11 (dk_at dksX1_require_0 1 rfl rfl)
theorem dX1_require_4 : decode cX1_require 4 = .ok (.new 49, 3) := dk_187 0 49 (dk_at dksX1_require_0 4 rfl rfl)
theorem dX1_require_7 : decode cX1_require 7 = .ok (.dup, 1) := dk_89 (dk_at dksX1_require_0 7 rfl rfl)
theorem dX1_require_8 : decode cX1_require 8 = .ok (.invokespecial 51, 3) := dk_183 0 51 (dk_at dksX1_require_0 8 rfl rfl)
theorem dX1_require_11 : decode cX1_require 11 = .ok (.athrow, 1) := dk_191 (dk_at dksX1_require_0 11 rfl rfl)
theorem dX1_require_12 : decode cX1_require 12 = .ok (.return_, 1) := dk_177 (dk_at dksX1_require_0 12 rfl rfl)
abbrev cX1_changed : ByteArray := prog_1_method_12_code
def yX1_changed : MethodName := ⟨RX1, "changed", "(LBrassInspector$Deed;)I"⟩
def dkwX1_changed_0 : List UInt8 := [42, 43, 182, 0, 91, 172, 77, 42, 44, 182, 0, 95, 191]
abbrev dktX1_changed_0 : List UInt8 := dkwX1_changed_0 ++ []
theorem dksX1_changed_0 : cX1_changed.data.toList.drop 0 = dktX1_changed_0 := by decide +kernel
theorem dX1_changed_0 : decode cX1_changed 0 = .ok (.aload_n 0, 1) := dk_42 (dk_at dksX1_changed_0 0 rfl rfl)
theorem dX1_changed_1 : decode cX1_changed 1 = .ok (.aload_n 1, 1) := dk_43 (dk_at dksX1_changed_0 1 rfl rfl)
theorem dX1_changed_2 : decode cX1_changed 2 = .ok (.invokevirtual 91, 3) := dk_182 0 91 (dk_at dksX1_changed_0 2 rfl rfl)
theorem dX1_changed_5 : decode cX1_changed 5 = .ok (.ireturn, 1) := dk_172 (dk_at dksX1_changed_0 5 rfl rfl)
theorem dX1_changed_6 : decode cX1_changed 6 = .ok (.astore_n 2, 1) := dk_77 (dk_at dksX1_changed_0 6 rfl rfl)
theorem dX1_changed_7 : decode cX1_changed 7 = .ok (.aload_n 0, 1) := dk_42 (dk_at dksX1_changed_0 7 rfl rfl)
theorem dX1_changed_8 : decode cX1_changed 8 = .ok (.aload_n 2, 1) := dk_44 (dk_at dksX1_changed_0 8 rfl rfl)
theorem dX1_changed_9 : decode cX1_changed 9 = .ok (.invokevirtual 95, 3) := dk_182 0 95 (dk_at dksX1_changed_0 9 rfl rfl)
theorem dX1_changed_12 : decode cX1_changed 12 = .ok (.athrow, 1) := dk_191 (dk_at dksX1_changed_0 12 rfl rfl)
abbrev cX1_tried : ByteArray := prog_1_method_11_code
def yX1_tried : MethodName := ⟨RX1, "tried", "(LBrassInspector$Deed;)I"⟩
def dkwX1_tried_1 : List UInt8 := [181, 0, 87, 45, 191]
abbrev dktX1_tried_1 : List UInt8 := dkwX1_tried_1 ++ []
def dkwX1_tried_0 : List UInt8 := [42, 180, 0, 21, 182, 0, 73, 77, 43, 44, 182, 0, 77, 62, 42, 44, 182, 0, 83, 29, 172, 78, 42, 45]
abbrev dktX1_tried_0 : List UInt8 := dkwX1_tried_0 ++ dktX1_tried_1
theorem dksX1_tried_0 : cX1_tried.data.toList.drop 0 = dktX1_tried_0 := by decide +kernel
theorem dksX1_tried_1 : cX1_tried.data.toList.drop 24 = dktX1_tried_1 := dk_seg dksX1_tried_0 24 rfl rfl
theorem dX1_tried_0 : decode cX1_tried 0 = .ok (.aload_n 0, 1) := dk_42 (dk_at dksX1_tried_0 0 rfl rfl)
theorem dX1_tried_1 : decode cX1_tried 1 = .ok (.getfield 21, 3) := dk_180 0 21 (dk_at dksX1_tried_0 1 rfl rfl)
theorem dX1_tried_4 : decode cX1_tried 4 = .ok (.invokevirtual 73, 3) := dk_182 0 73 (dk_at dksX1_tried_0 4 rfl rfl)
theorem dX1_tried_7 : decode cX1_tried 7 = .ok (.astore_n 2, 1) := dk_77 (dk_at dksX1_tried_0 7 rfl rfl)
theorem dX1_tried_8 : decode cX1_tried 8 = .ok (.aload_n 1, 1) := dk_43 (dk_at dksX1_tried_0 8 rfl rfl)
theorem dX1_tried_9 : decode cX1_tried 9 = .ok (.aload_n 2, 1) := dk_44 (dk_at dksX1_tried_0 9 rfl rfl)
theorem dX1_tried_10 : decode cX1_tried 10 = .ok (.invokevirtual 77, 3) := dk_182 0 77 (dk_at dksX1_tried_0 10 rfl rfl)
theorem dX1_tried_13 : decode cX1_tried 13 = .ok (.istore_n 3, 1) := dk_62 (dk_at dksX1_tried_0 13 rfl rfl)
theorem dX1_tried_14 : decode cX1_tried 14 = .ok (.aload_n 0, 1) := dk_42 (dk_at dksX1_tried_0 14 rfl rfl)
theorem dX1_tried_15 : decode cX1_tried 15 = .ok (.aload_n 2, 1) := dk_44 (dk_at dksX1_tried_0 15 rfl rfl)
theorem dX1_tried_16 : decode cX1_tried 16 = .ok (.invokevirtual 83, 3) := dk_182 0 83 (dk_at dksX1_tried_0 16 rfl rfl)
theorem dX1_tried_19 : decode cX1_tried 19 = .ok (.iload_n 3, 1) := dk_29 (dk_at dksX1_tried_0 19 rfl rfl)
theorem dX1_tried_20 : decode cX1_tried 20 = .ok (.ireturn, 1) := dk_172 (dk_at dksX1_tried_0 20 rfl rfl)
theorem dX1_tried_21 : decode cX1_tried 21 = .ok (.astore_n 3, 1) := dk_78 (dk_at dksX1_tried_0 21 rfl rfl)
theorem dX1_tried_22 : decode cX1_tried 22 = .ok (.aload_n 0, 1) := dk_42 (dk_at dksX1_tried_0 22 rfl rfl)
theorem dX1_tried_23 : decode cX1_tried 23 = .ok (.aload_n 3, 1) := dk_45 (dk_at dksX1_tried_0 23 rfl rfl)
theorem dX1_tried_24 : decode cX1_tried 24 = .ok (.putfield 87, 3) := dk_181 0 87 (dk_at dksX1_tried_1 0 rfl rfl)
theorem dX1_tried_27 : decode cX1_tried 27 = .ok (.aload_n 3, 1) := dk_45 (dk_at dksX1_tried_1 3 rfl rfl)
theorem dX1_tried_28 : decode cX1_tried 28 = .ok (.athrow, 1) := dk_191 (dk_at dksX1_tried_1 4 rfl rfl)
abbrev cX1_meet : ByteArray := prog_1_method_1_code
def yX1_meet : MethodName := ⟨RX1, "meet", "(ZII)V"⟩
def dkwX1_meet_0 : List UInt8 := [26, 154, 0, 13, 187, 0, 1, 89, 27, 28, 183, 0, 3, 191, 177]
abbrev dktX1_meet_0 : List UInt8 := dkwX1_meet_0 ++ []
theorem dksX1_meet_0 : cX1_meet.data.toList.drop 0 = dktX1_meet_0 := by decide +kernel
theorem dX1_meet_0 : decode cX1_meet 0 = .ok (.iload_n 0, 1) := dk_26 (dk_at dksX1_meet_0 0 rfl rfl)
theorem dX1_meet_1 : decode cX1_meet 1 = .ok (.ifCond .ne 13, 3) := dk_154 0 13 (dk_at dksX1_meet_0 1 rfl rfl)
theorem dX1_meet_4 : decode cX1_meet 4 = .ok (.new 1, 3) := dk_187 0 1 (dk_at dksX1_meet_0 4 rfl rfl)
theorem dX1_meet_7 : decode cX1_meet 7 = .ok (.dup, 1) := dk_89 (dk_at dksX1_meet_0 7 rfl rfl)
theorem dX1_meet_8 : decode cX1_meet 8 = .ok (.iload_n 1, 1) := dk_27 (dk_at dksX1_meet_0 8 rfl rfl)
theorem dX1_meet_9 : decode cX1_meet 9 = .ok (.iload_n 2, 1) := dk_28 (dk_at dksX1_meet_0 9 rfl rfl)
theorem dX1_meet_10 : decode cX1_meet 10 = .ok (.invokespecial 3, 3) := dk_183 0 3 (dk_at dksX1_meet_0 10 rfl rfl)
theorem dX1_meet_13 : decode cX1_meet 13 = .ok (.athrow, 1) := dk_191 (dk_at dksX1_meet_0 13 rfl rfl)
theorem dX1_meet_14 : decode cX1_meet 14 = .ok (.return_, 1) := dk_177 (dk_at dksX1_meet_0 14 rfl rfl)
abbrev cX1_carryOutAll : ByteArray := prog_1_method_40_code
def yX1_carryOutAll : MethodName := ⟨RX1, "carryOutAll", "(LBrassInspector$Round;Ljava/util/List;)I"⟩
def dkwX1_carryOutAll_2 : List UInt8 := [183, 0, 3, 58, 6, 25, 6, 25, 5, 182, 1, 50, 87, 25, 6, 191, 132, 2, 1, 167, 255, 198, 28, 172]
abbrev dktX1_carryOutAll_2 : List UInt8 := dkwX1_carryOutAll_2 ++ []
def dkwX1_carryOutAll_1 : List UInt8 := [192, 0, 78, 58, 4, 25, 4, 42, 182, 0, 77, 87, 167, 0, 28, 58, 5, 187, 0, 1, 89, 16, 11, 28]
abbrev dktX1_carryOutAll_1 : List UInt8 := dkwX1_carryOutAll_1 ++ dktX1_carryOutAll_2
def dkwX1_carryOutAll_0 : List UInt8 := [3, 61, 43, 185, 1, 49, 1, 0, 78, 45, 185, 0, 207, 1, 0, 153, 0, 55, 45, 185, 0, 212, 1, 0]
abbrev dktX1_carryOutAll_0 : List UInt8 := dkwX1_carryOutAll_0 ++ dktX1_carryOutAll_1
theorem dksX1_carryOutAll_0 : cX1_carryOutAll.data.toList.drop 0 = dktX1_carryOutAll_0 := by decide +kernel
theorem dksX1_carryOutAll_1 : cX1_carryOutAll.data.toList.drop 24 = dktX1_carryOutAll_1 := dk_seg dksX1_carryOutAll_0 24 rfl rfl
theorem dksX1_carryOutAll_2 : cX1_carryOutAll.data.toList.drop 48 = dktX1_carryOutAll_2 := dk_seg dksX1_carryOutAll_1 24 rfl rfl
theorem dX1_carryOutAll_0 : decode cX1_carryOutAll 0 = .ok (.iconst 0, 1) := dk_3 (dk_at dksX1_carryOutAll_0 0 rfl rfl)
theorem dX1_carryOutAll_1 : decode cX1_carryOutAll 1 = .ok (.istore_n 2, 1) := dk_61 (dk_at dksX1_carryOutAll_0 1 rfl rfl)
theorem dX1_carryOutAll_2 : decode cX1_carryOutAll 2 = .ok (.aload_n 1, 1) := dk_43 (dk_at dksX1_carryOutAll_0 2 rfl rfl)
theorem dX1_carryOutAll_3 : decode cX1_carryOutAll 3 = .ok (.invokeinterface 305 1, 5) := by decide +kernel
theorem dX1_carryOutAll_8 : decode cX1_carryOutAll 8 = .ok (.astore_n 3, 1) := dk_78 (dk_at dksX1_carryOutAll_0 8 rfl rfl)
theorem dX1_carryOutAll_9 : decode cX1_carryOutAll 9 = .ok (.aload_n 3, 1) := dk_45 (dk_at dksX1_carryOutAll_0 9 rfl rfl)
theorem dX1_carryOutAll_10 : decode cX1_carryOutAll 10 = .ok (.invokeinterface 207 1, 5) := by decide +kernel
theorem dX1_carryOutAll_15 : decode cX1_carryOutAll 15 = .ok (.ifCond .eq 55, 3) := dk_153 0 55 (dk_at dksX1_carryOutAll_0 15 rfl rfl)
theorem dX1_carryOutAll_18 : decode cX1_carryOutAll 18 = .ok (.aload_n 3, 1) := dk_45 (dk_at dksX1_carryOutAll_0 18 rfl rfl)
theorem dX1_carryOutAll_19 : decode cX1_carryOutAll 19 = .ok (.invokeinterface 212 1, 5) := by decide +kernel
theorem dX1_carryOutAll_24 : decode cX1_carryOutAll 24 = .ok (.checkcast 78, 3) := dk_192 0 78 (dk_at dksX1_carryOutAll_1 0 rfl rfl)
theorem dX1_carryOutAll_27 : decode cX1_carryOutAll 27 = .ok (.astore 4, 2) := dk_58 4 (dk_at dksX1_carryOutAll_1 3 rfl rfl)
theorem dX1_carryOutAll_29 : decode cX1_carryOutAll 29 = .ok (.aload 4, 2) := dk_25 4 (dk_at dksX1_carryOutAll_1 5 rfl rfl)
theorem dX1_carryOutAll_31 : decode cX1_carryOutAll 31 = .ok (.aload_n 0, 1) := dk_42 (dk_at dksX1_carryOutAll_1 7 rfl rfl)
theorem dX1_carryOutAll_32 : decode cX1_carryOutAll 32 = .ok (.invokevirtual 77, 3) := dk_182 0 77 (dk_at dksX1_carryOutAll_1 8 rfl rfl)
theorem dX1_carryOutAll_35 : decode cX1_carryOutAll 35 = .ok (.pop, 1) := dk_87 (dk_at dksX1_carryOutAll_1 11 rfl rfl)
theorem dX1_carryOutAll_36 : decode cX1_carryOutAll 36 = .ok (.goto 28, 3) := dk_167 0 28 (dk_at dksX1_carryOutAll_1 12 rfl rfl)
theorem dX1_carryOutAll_39 : decode cX1_carryOutAll 39 = .ok (.astore 5, 2) := dk_58 5 (dk_at dksX1_carryOutAll_1 15 rfl rfl)
theorem dX1_carryOutAll_41 : decode cX1_carryOutAll 41 = .ok (.new 1, 3) := dk_187 0 1 (dk_at dksX1_carryOutAll_1 17 rfl rfl)
theorem dX1_carryOutAll_44 : decode cX1_carryOutAll 44 = .ok (.dup, 1) := dk_89 (dk_at dksX1_carryOutAll_1 20 rfl rfl)
theorem dX1_carryOutAll_45 : decode cX1_carryOutAll 45 = .ok (.bipush 11, 2) := dk_16 11 (dk_at dksX1_carryOutAll_1 21 rfl rfl)
theorem dX1_carryOutAll_47 : decode cX1_carryOutAll 47 = .ok (.iload_n 2, 1) := dk_28 (dk_at dksX1_carryOutAll_1 23 rfl rfl)
theorem dX1_carryOutAll_48 : decode cX1_carryOutAll 48 = .ok (.invokespecial 3, 3) := dk_183 0 3 (dk_at dksX1_carryOutAll_2 0 rfl rfl)
theorem dX1_carryOutAll_51 : decode cX1_carryOutAll 51 = .ok (.astore 6, 2) := dk_58 6 (dk_at dksX1_carryOutAll_2 3 rfl rfl)
theorem dX1_carryOutAll_53 : decode cX1_carryOutAll 53 = .ok (.aload 6, 2) := dk_25 6 (dk_at dksX1_carryOutAll_2 5 rfl rfl)
theorem dX1_carryOutAll_55 : decode cX1_carryOutAll 55 = .ok (.aload 5, 2) := dk_25 5 (dk_at dksX1_carryOutAll_2 7 rfl rfl)
theorem dX1_carryOutAll_57 : decode cX1_carryOutAll 57 = .ok (.invokevirtual 306, 3) := dk_182 1 50 (dk_at dksX1_carryOutAll_2 9 rfl rfl)
theorem dX1_carryOutAll_60 : decode cX1_carryOutAll 60 = .ok (.pop, 1) := dk_87 (dk_at dksX1_carryOutAll_2 12 rfl rfl)
theorem dX1_carryOutAll_61 : decode cX1_carryOutAll 61 = .ok (.aload 6, 2) := dk_25 6 (dk_at dksX1_carryOutAll_2 13 rfl rfl)
theorem dX1_carryOutAll_63 : decode cX1_carryOutAll 63 = .ok (.athrow, 1) := dk_191 (dk_at dksX1_carryOutAll_2 15 rfl rfl)
theorem dX1_carryOutAll_64 : decode cX1_carryOutAll 64 = .ok (.iinc 2 1, 3) := dk_132 2 1 (dk_at dksX1_carryOutAll_2 16 rfl rfl)
theorem dX1_carryOutAll_67 : decode cX1_carryOutAll 67 = .ok (.goto (-58), 3) := dk_167 255 198 (dk_at dksX1_carryOutAll_2 19 rfl rfl)
theorem dX1_carryOutAll_70 : decode cX1_carryOutAll 70 = .ok (.iload_n 2, 1) := dk_28 (dk_at dksX1_carryOutAll_2 22 rfl rfl)
theorem dX1_carryOutAll_71 : decode cX1_carryOutAll 71 = .ok (.ireturn, 1) := dk_172 (dk_at dksX1_carryOutAll_2 23 rfl rfl)
abbrev cX1_call : ByteArray := prog_1_method_4_code
def yX1_call : MethodName := ⟨RX1, "call", "(Z)V"⟩
def dkwX1_call_0 : List UInt8 := [26, 16, 13, 3, 184, 0, 7, 177]
abbrev dktX1_call_0 : List UInt8 := dkwX1_call_0 ++ []
theorem dksX1_call_0 : cX1_call.data.toList.drop 0 = dktX1_call_0 := by decide +kernel
theorem dX1_call_0 : decode cX1_call 0 = .ok (.iload_n 0, 1) := dk_26 (dk_at dksX1_call_0 0 rfl rfl)
theorem dX1_call_1 : decode cX1_call 1 = .ok (.bipush 13, 2) := dk_16 13 (dk_at dksX1_call_0 1 rfl rfl)
theorem dX1_call_3 : decode cX1_call 3 = .ok (.iconst 0, 1) := dk_3 (dk_at dksX1_call_0 3 rfl rfl)
theorem dX1_call_4 : decode cX1_call 4 = .ok (.invokestatic 7, 3) := dk_184 0 7 (dk_at dksX1_call_0 4 rfl rfl)
theorem dX1_call_7 : decode cX1_call 7 = .ok (.return_, 1) := dk_177 (dk_at dksX1_call_0 7 rfl rfl)
abbrev cX1_become : ByteArray := prog_1_method_10_code
def yX1_become : MethodName := ⟨RX1, "become", "(LBrassInspector$Round;)V"⟩
def dkwX1_become_1 : List UInt8 := [42, 180, 0, 21, 182, 0, 69, 42, 43, 181, 0, 21, 177]
abbrev dktX1_become_1 : List UInt8 := dkwX1_become_1 ++ []
def dkwX1_become_0 : List UInt8 := [42, 180, 0, 28, 182, 0, 61, 16, 8, 160, 0, 11, 42, 180, 0, 28, 182, 0, 65, 87, 42, 180, 0, 28]
abbrev dktX1_become_0 : List UInt8 := dkwX1_become_0 ++ dktX1_become_1
theorem dksX1_become_0 : cX1_become.data.toList.drop 0 = dktX1_become_0 := by decide +kernel
theorem dksX1_become_1 : cX1_become.data.toList.drop 24 = dktX1_become_1 := dk_seg dksX1_become_0 24 rfl rfl
theorem dX1_become_0 : decode cX1_become 0 = .ok (.aload_n 0, 1) := dk_42 (dk_at dksX1_become_0 0 rfl rfl)
theorem dX1_become_1 : decode cX1_become 1 = .ok (.getfield 28, 3) := dk_180 0 28 (dk_at dksX1_become_0 1 rfl rfl)
theorem dX1_become_4 : decode cX1_become 4 = .ok (.invokevirtual 61, 3) := dk_182 0 61 (dk_at dksX1_become_0 4 rfl rfl)
theorem dX1_become_7 : decode cX1_become 7 = .ok (.bipush 8, 2) := dk_16 8 (dk_at dksX1_become_0 7 rfl rfl)
theorem dX1_become_9 : decode cX1_become 9 = .ok (.if_icmp .ne 11, 3) := dk_160 0 11 (dk_at dksX1_become_0 9 rfl rfl)
theorem dX1_become_12 : decode cX1_become 12 = .ok (.aload_n 0, 1) := dk_42 (dk_at dksX1_become_0 12 rfl rfl)
theorem dX1_become_13 : decode cX1_become 13 = .ok (.getfield 28, 3) := dk_180 0 28 (dk_at dksX1_become_0 13 rfl rfl)
theorem dX1_become_16 : decode cX1_become 16 = .ok (.invokevirtual 65, 3) := dk_182 0 65 (dk_at dksX1_become_0 16 rfl rfl)
theorem dX1_become_19 : decode cX1_become 19 = .ok (.pop, 1) := dk_87 (dk_at dksX1_become_0 19 rfl rfl)
theorem dX1_become_20 : decode cX1_become 20 = .ok (.aload_n 0, 1) := dk_42 (dk_at dksX1_become_0 20 rfl rfl)
theorem dX1_become_21 : decode cX1_become 21 = .ok (.getfield 28, 3) := dk_180 0 28 (dk_at dksX1_become_0 21 rfl rfl)
theorem dX1_become_24 : decode cX1_become 24 = .ok (.aload_n 0, 1) := dk_42 (dk_at dksX1_become_1 0 rfl rfl)
theorem dX1_become_25 : decode cX1_become 25 = .ok (.getfield 21, 3) := dk_180 0 21 (dk_at dksX1_become_1 1 rfl rfl)
theorem dX1_become_28 : decode cX1_become 28 = .ok (.invokevirtual 69, 3) := dk_182 0 69 (dk_at dksX1_become_1 4 rfl rfl)
theorem dX1_become_31 : decode cX1_become 31 = .ok (.aload_n 0, 1) := dk_42 (dk_at dksX1_become_1 7 rfl rfl)
theorem dX1_become_32 : decode cX1_become 32 = .ok (.aload_n 1, 1) := dk_43 (dk_at dksX1_become_1 8 rfl rfl)
theorem dX1_become_33 : decode cX1_become 33 = .ok (.putfield 21, 3) := dk_181 0 21 (dk_at dksX1_become_1 9 rfl rfl)
theorem dX1_become_36 : decode cX1_become 36 = .ok (.return_, 1) := dk_177 (dk_at dksX1_become_1 12 rfl rfl)
abbrev cX1_outside : ByteArray := prog_1_method_13_code
def yX1_outside : MethodName := ⟨RX1, "outside", "(Ljava/lang/Exception;)Ljava/lang/RuntimeException;"⟩
def dkwX1_outside_1 : List UInt8 := [183, 0, 51, 176, 187, 0, 104, 89, 183, 0, 106, 176]
abbrev dktX1_outside_1 : List UInt8 := dkwX1_outside_1 ++ []
def dkwX1_outside_0 : List UInt8 := [43, 193, 0, 99, 153, 0, 24, 43, 192, 0, 99, 77, 42, 44, 182, 0, 101, 181, 0, 39, 187, 0, 49, 89]
abbrev dktX1_outside_0 : List UInt8 := dkwX1_outside_0 ++ dktX1_outside_1
theorem dksX1_outside_0 : cX1_outside.data.toList.drop 0 = dktX1_outside_0 := by decide +kernel
theorem dksX1_outside_1 : cX1_outside.data.toList.drop 24 = dktX1_outside_1 := dk_seg dksX1_outside_0 24 rfl rfl
theorem dX1_outside_0 : decode cX1_outside 0 = .ok (.aload_n 1, 1) := dk_43 (dk_at dksX1_outside_0 0 rfl rfl)
theorem dX1_outside_1 : decode cX1_outside 1 = .ok (.instanceof 99, 3) := dk_193 0 99 (dk_at dksX1_outside_0 1 rfl rfl)
theorem dX1_outside_4 : decode cX1_outside 4 = .ok (.ifCond .eq 24, 3) := dk_153 0 24 (dk_at dksX1_outside_0 4 rfl rfl)
theorem dX1_outside_7 : decode cX1_outside 7 = .ok (.aload_n 1, 1) := dk_43 (dk_at dksX1_outside_0 7 rfl rfl)
theorem dX1_outside_8 : decode cX1_outside 8 = .ok (.checkcast 99, 3) := dk_192 0 99 (dk_at dksX1_outside_0 8 rfl rfl)
theorem dX1_outside_11 : decode cX1_outside 11 = .ok (.astore_n 2, 1) := dk_77 (dk_at dksX1_outside_0 11 rfl rfl)
theorem dX1_outside_12 : decode cX1_outside 12 = .ok (.aload_n 0, 1) := dk_42 (dk_at dksX1_outside_0 12 rfl rfl)
theorem dX1_outside_13 : decode cX1_outside 13 = .ok (.aload_n 2, 1) := dk_44 (dk_at dksX1_outside_0 13 rfl rfl)
theorem dX1_outside_14 : decode cX1_outside 14 = .ok (.invokevirtual 101, 3) := dk_182 0 101 (dk_at dksX1_outside_0 14 rfl rfl)
theorem dX1_outside_17 : decode cX1_outside 17 = .ok (.putfield 39, 3) := dk_181 0 39 (dk_at dksX1_outside_0 17 rfl rfl)
theorem dX1_outside_20 : decode cX1_outside 20 = .ok (.new 49, 3) := dk_187 0 49 (dk_at dksX1_outside_0 20 rfl rfl)
theorem dX1_outside_23 : decode cX1_outside 23 = .ok (.dup, 1) := dk_89 (dk_at dksX1_outside_0 23 rfl rfl)
theorem dX1_outside_24 : decode cX1_outside 24 = .ok (.invokespecial 51, 3) := dk_183 0 51 (dk_at dksX1_outside_1 0 rfl rfl)
theorem dX1_outside_27 : decode cX1_outside 27 = .ok (.areturn, 1) := dk_176 (dk_at dksX1_outside_1 3 rfl rfl)
theorem dX1_outside_28 : decode cX1_outside 28 = .ok (.new 104, 3) := dk_187 0 104 (dk_at dksX1_outside_1 4 rfl rfl)
theorem dX1_outside_31 : decode cX1_outside 31 = .ok (.dup, 1) := dk_89 (dk_at dksX1_outside_1 7 rfl rfl)
theorem dX1_outside_32 : decode cX1_outside 32 = .ok (.invokespecial 106, 3) := dk_183 0 106 (dk_at dksX1_outside_1 8 rfl rfl)
theorem dX1_outside_35 : decode cX1_outside 35 = .ok (.areturn, 1) := dk_176 (dk_at dksX1_outside_1 11 rfl rfl)
abbrev cX1_trader : ByteArray := prog_1_method_18_code
def yX1_trader : MethodName := ⟨RX1, "trader", "(III)I"⟩
def dkwX1_trader_2 : List UInt8 := [182, 0, 145, 172]
abbrev dktX1_trader_2 : List UInt8 := dkwX1_trader_2 ++ []
def dkwX1_trader_1 : List UInt8 := [153, 0, 7, 4, 167, 0, 4, 3, 184, 0, 137, 42, 187, 0, 148, 89, 42, 27, 28, 29, 183, 0, 150]
abbrev dktX1_trader_1 : List UInt8 := dkwX1_trader_1 ++ dktX1_trader_2
def dkwX1_trader_0 : List UInt8 := [27, 184, 0, 133, 28, 3, 17, 3, 231, 184, 0, 107, 153, 0, 17, 29, 16, 253, 6, 184, 0, 107]
abbrev dktX1_trader_0 : List UInt8 := dkwX1_trader_0 ++ dktX1_trader_1
theorem dksX1_trader_0 : cX1_trader.data.toList.drop 0 = dktX1_trader_0 := by decide +kernel
theorem dksX1_trader_1 : cX1_trader.data.toList.drop 22 = dktX1_trader_1 := dk_seg dksX1_trader_0 22 rfl rfl
theorem dksX1_trader_2 : cX1_trader.data.toList.drop 45 = dktX1_trader_2 := dk_seg dksX1_trader_1 23 rfl rfl
theorem dX1_trader_0 : decode cX1_trader 0 = .ok (.iload_n 1, 1) := dk_27 (dk_at dksX1_trader_0 0 rfl rfl)
theorem dX1_trader_1 : decode cX1_trader 1 = .ok (.invokestatic 133, 3) := dk_184 0 133 (dk_at dksX1_trader_0 1 rfl rfl)
theorem dX1_trader_4 : decode cX1_trader 4 = .ok (.iload_n 2, 1) := dk_28 (dk_at dksX1_trader_0 4 rfl rfl)
theorem dX1_trader_5 : decode cX1_trader 5 = .ok (.iconst 0, 1) := dk_3 (dk_at dksX1_trader_0 5 rfl rfl)
theorem dX1_trader_6 : decode cX1_trader 6 = .ok (.sipush 999, 3) := dk_17 3 231 (dk_at dksX1_trader_0 6 rfl rfl)
theorem dX1_trader_9 : decode cX1_trader 9 = .ok (.invokestatic 107, 3) := dk_184 0 107 (dk_at dksX1_trader_0 9 rfl rfl)
theorem dX1_trader_12 : decode cX1_trader 12 = .ok (.ifCond .eq 17, 3) := dk_153 0 17 (dk_at dksX1_trader_0 12 rfl rfl)
theorem dX1_trader_15 : decode cX1_trader 15 = .ok (.iload_n 3, 1) := dk_29 (dk_at dksX1_trader_0 15 rfl rfl)
theorem dX1_trader_16 : decode cX1_trader 16 = .ok (.bipush (-3), 2) := dk_16 253 (dk_at dksX1_trader_0 16 rfl rfl)
theorem dX1_trader_18 : decode cX1_trader 18 = .ok (.iconst 3, 1) := dk_6 (dk_at dksX1_trader_0 18 rfl rfl)
theorem dX1_trader_19 : decode cX1_trader 19 = .ok (.invokestatic 107, 3) := dk_184 0 107 (dk_at dksX1_trader_0 19 rfl rfl)
theorem dX1_trader_22 : decode cX1_trader 22 = .ok (.ifCond .eq 7, 3) := dk_153 0 7 (dk_at dksX1_trader_1 0 rfl rfl)
theorem dX1_trader_25 : decode cX1_trader 25 = .ok (.iconst 1, 1) := dk_4 (dk_at dksX1_trader_1 3 rfl rfl)
theorem dX1_trader_26 : decode cX1_trader 26 = .ok (.goto 4, 3) := dk_167 0 4 (dk_at dksX1_trader_1 4 rfl rfl)
theorem dX1_trader_29 : decode cX1_trader 29 = .ok (.iconst 0, 1) := dk_3 (dk_at dksX1_trader_1 7 rfl rfl)
theorem dX1_trader_30 : decode cX1_trader 30 = .ok (.invokestatic 137, 3) := dk_184 0 137 (dk_at dksX1_trader_1 8 rfl rfl)
theorem dX1_trader_33 : decode cX1_trader 33 = .ok (.aload_n 0, 1) := dk_42 (dk_at dksX1_trader_1 11 rfl rfl)
theorem dX1_trader_34 : decode cX1_trader 34 = .ok (.new 148, 3) := dk_187 0 148 (dk_at dksX1_trader_1 12 rfl rfl)
theorem dX1_trader_37 : decode cX1_trader 37 = .ok (.dup, 1) := dk_89 (dk_at dksX1_trader_1 15 rfl rfl)
theorem dX1_trader_38 : decode cX1_trader 38 = .ok (.aload_n 0, 1) := dk_42 (dk_at dksX1_trader_1 16 rfl rfl)
theorem dX1_trader_39 : decode cX1_trader 39 = .ok (.iload_n 1, 1) := dk_27 (dk_at dksX1_trader_1 17 rfl rfl)
theorem dX1_trader_40 : decode cX1_trader 40 = .ok (.iload_n 2, 1) := dk_28 (dk_at dksX1_trader_1 18 rfl rfl)
theorem dX1_trader_41 : decode cX1_trader 41 = .ok (.iload_n 3, 1) := dk_29 (dk_at dksX1_trader_1 19 rfl rfl)
theorem dX1_trader_42 : decode cX1_trader 42 = .ok (.invokespecial 150, 3) := dk_183 0 150 (dk_at dksX1_trader_1 20 rfl rfl)
theorem dX1_trader_45 : decode cX1_trader 45 = .ok (.invokevirtual 145, 3) := dk_182 0 145 (dk_at dksX1_trader_2 0 rfl rfl)
theorem dX1_trader_48 : decode cX1_trader 48 = .ok (.ireturn, 1) := dk_172 (dk_at dksX1_trader_2 3 rfl rfl)
abbrev cX1_drift : ByteArray := prog_1_method_19_code
def yX1_drift : MethodName := ⟨RX1, "drift", "(II)I"⟩
def dkwX1_drift_1 : List UInt8 := [28, 183, 0, 160, 182, 0, 145, 172]
abbrev dktX1_drift_1 : List UInt8 := dkwX1_drift_1 ++ []
def dkwX1_drift_0 : List UInt8 := [42, 27, 182, 0, 153, 87, 28, 16, 253, 6, 184, 0, 107, 184, 0, 137, 42, 187, 0, 156, 89, 18, 158, 27]
abbrev dktX1_drift_0 : List UInt8 := dkwX1_drift_0 ++ dktX1_drift_1
theorem dksX1_drift_0 : cX1_drift.data.toList.drop 0 = dktX1_drift_0 := by decide +kernel
theorem dksX1_drift_1 : cX1_drift.data.toList.drop 24 = dktX1_drift_1 := dk_seg dksX1_drift_0 24 rfl rfl
theorem dX1_drift_0 : decode cX1_drift 0 = .ok (.aload_n 0, 1) := dk_42 (dk_at dksX1_drift_0 0 rfl rfl)
theorem dX1_drift_1 : decode cX1_drift 1 = .ok (.iload_n 1, 1) := dk_27 (dk_at dksX1_drift_0 1 rfl rfl)
theorem dX1_drift_2 : decode cX1_drift 2 = .ok (.invokevirtual 153, 3) := dk_182 0 153 (dk_at dksX1_drift_0 2 rfl rfl)
theorem dX1_drift_5 : decode cX1_drift 5 = .ok (.pop, 1) := dk_87 (dk_at dksX1_drift_0 5 rfl rfl)
theorem dX1_drift_6 : decode cX1_drift 6 = .ok (.iload_n 2, 1) := dk_28 (dk_at dksX1_drift_0 6 rfl rfl)
theorem dX1_drift_7 : decode cX1_drift 7 = .ok (.bipush (-3), 2) := dk_16 253 (dk_at dksX1_drift_0 7 rfl rfl)
theorem dX1_drift_9 : decode cX1_drift 9 = .ok (.iconst 3, 1) := dk_6 (dk_at dksX1_drift_0 9 rfl rfl)
theorem dX1_drift_10 : decode cX1_drift 10 = .ok (.invokestatic 107, 3) := dk_184 0 107 (dk_at dksX1_drift_0 10 rfl rfl)
theorem dX1_drift_13 : decode cX1_drift 13 = .ok (.invokestatic 137, 3) := dk_184 0 137 (dk_at dksX1_drift_0 13 rfl rfl)
theorem dX1_drift_16 : decode cX1_drift 16 = .ok (.aload_n 0, 1) := dk_42 (dk_at dksX1_drift_0 16 rfl rfl)
theorem dX1_drift_17 : decode cX1_drift 17 = .ok (.new 156, 3) := dk_187 0 156 (dk_at dksX1_drift_0 17 rfl rfl)
theorem dX1_drift_20 : decode cX1_drift 20 = .ok (.dup, 1) := dk_89 (dk_at dksX1_drift_0 20 rfl rfl)
theorem dX1_drift_21 : decode cX1_drift 21 = .ok (.ldc 158, 2) := dk_18 158 (dk_at dksX1_drift_0 21 rfl rfl)
theorem dX1_drift_23 : decode cX1_drift 23 = .ok (.iload_n 1, 1) := dk_27 (dk_at dksX1_drift_0 23 rfl rfl)
theorem dX1_drift_24 : decode cX1_drift 24 = .ok (.iload_n 2, 1) := dk_28 (dk_at dksX1_drift_1 0 rfl rfl)
theorem dX1_drift_25 : decode cX1_drift 25 = .ok (.invokespecial 160, 3) := dk_183 0 160 (dk_at dksX1_drift_1 1 rfl rfl)
theorem dX1_drift_28 : decode cX1_drift 28 = .ok (.invokevirtual 145, 3) := dk_182 0 145 (dk_at dksX1_drift_1 4 rfl rfl)
theorem dX1_drift_31 : decode cX1_drift 31 = .ok (.ireturn, 1) := dk_172 (dk_at dksX1_drift_1 7 rfl rfl)
abbrev cX1_traderIn : ByteArray := prog_1_method_15_code
def yX1_traderIn : MethodName := ⟨RX1, "traderIn", "(I)LBrassInspector$Round$Trader;"⟩
def dkwX1_traderIn_1 : List UInt8 := [180, 0, 21, 27, 182, 0, 122, 176]
abbrev dktX1_traderIn_1 : List UInt8 := dkwX1_traderIn_1 ++ []
def dkwX1_traderIn_0 : List UInt8 := [27, 3, 42, 180, 0, 21, 182, 0, 115, 185, 0, 119, 1, 0, 4, 100, 184, 0, 107, 184, 0, 111, 42]
abbrev dktX1_traderIn_0 : List UInt8 := dkwX1_traderIn_0 ++ dktX1_traderIn_1
theorem dksX1_traderIn_0 : cX1_traderIn.data.toList.drop 0 = dktX1_traderIn_0 := by decide +kernel
theorem dksX1_traderIn_1 : cX1_traderIn.data.toList.drop 23 = dktX1_traderIn_1 := dk_seg dksX1_traderIn_0 23 rfl rfl
theorem dX1_traderIn_0 : decode cX1_traderIn 0 = .ok (.iload_n 1, 1) := dk_27 (dk_at dksX1_traderIn_0 0 rfl rfl)
theorem dX1_traderIn_1 : decode cX1_traderIn 1 = .ok (.iconst 0, 1) := dk_3 (dk_at dksX1_traderIn_0 1 rfl rfl)
theorem dX1_traderIn_2 : decode cX1_traderIn 2 = .ok (.aload_n 0, 1) := dk_42 (dk_at dksX1_traderIn_0 2 rfl rfl)
theorem dX1_traderIn_3 : decode cX1_traderIn 3 = .ok (.getfield 21, 3) := dk_180 0 21 (dk_at dksX1_traderIn_0 3 rfl rfl)
theorem dX1_traderIn_6 : decode cX1_traderIn 6 = .ok (.invokevirtual 115, 3) := dk_182 0 115 (dk_at dksX1_traderIn_0 6 rfl rfl)
theorem dX1_traderIn_9 : decode cX1_traderIn 9 = .ok (.invokeinterface 119 1, 5) := by decide +kernel
theorem dX1_traderIn_14 : decode cX1_traderIn 14 = .ok (.iconst 1, 1) := dk_4 (dk_at dksX1_traderIn_0 14 rfl rfl)
theorem dX1_traderIn_15 : decode cX1_traderIn 15 = .ok (.isub, 1) := dk_100 (dk_at dksX1_traderIn_0 15 rfl rfl)
theorem dX1_traderIn_16 : decode cX1_traderIn 16 = .ok (.invokestatic 107, 3) := dk_184 0 107 (dk_at dksX1_traderIn_0 16 rfl rfl)
theorem dX1_traderIn_19 : decode cX1_traderIn 19 = .ok (.invokestatic 111, 3) := dk_184 0 111 (dk_at dksX1_traderIn_0 19 rfl rfl)
theorem dX1_traderIn_22 : decode cX1_traderIn 22 = .ok (.aload_n 0, 1) := dk_42 (dk_at dksX1_traderIn_0 22 rfl rfl)
theorem dX1_traderIn_23 : decode cX1_traderIn 23 = .ok (.getfield 21, 3) := dk_180 0 21 (dk_at dksX1_traderIn_1 0 rfl rfl)
theorem dX1_traderIn_26 : decode cX1_traderIn 26 = .ok (.iload_n 1, 1) := dk_27 (dk_at dksX1_traderIn_1 3 rfl rfl)
theorem dX1_traderIn_27 : decode cX1_traderIn 27 = .ok (.invokevirtual 122, 3) := dk_182 0 122 (dk_at dksX1_traderIn_1 4 rfl rfl)
theorem dX1_traderIn_30 : decode cX1_traderIn 30 = .ok (.areturn, 1) := dk_176 (dk_at dksX1_traderIn_1 7 rfl rfl)
abbrev cX1_coins : ByteArray := prog_1_method_20_code
def yX1_coins : MethodName := ⟨RX1, "coins", "(II)I"⟩
def dkwX1_coins_1 : List UInt8 := [183, 0, 165, 182, 0, 145, 172]
abbrev dktX1_coins_1 : List UInt8 := dkwX1_coins_1 ++ []
def dkwX1_coins_0 : List UInt8 := [42, 27, 182, 0, 153, 87, 28, 4, 16, 99, 184, 0, 107, 184, 0, 137, 42, 187, 0, 163, 89, 42, 27, 28]
abbrev dktX1_coins_0 : List UInt8 := dkwX1_coins_0 ++ dktX1_coins_1
theorem dksX1_coins_0 : cX1_coins.data.toList.drop 0 = dktX1_coins_0 := by decide +kernel
theorem dksX1_coins_1 : cX1_coins.data.toList.drop 24 = dktX1_coins_1 := dk_seg dksX1_coins_0 24 rfl rfl
theorem dX1_coins_0 : decode cX1_coins 0 = .ok (.aload_n 0, 1) := dk_42 (dk_at dksX1_coins_0 0 rfl rfl)
theorem dX1_coins_1 : decode cX1_coins 1 = .ok (.iload_n 1, 1) := dk_27 (dk_at dksX1_coins_0 1 rfl rfl)
theorem dX1_coins_2 : decode cX1_coins 2 = .ok (.invokevirtual 153, 3) := dk_182 0 153 (dk_at dksX1_coins_0 2 rfl rfl)
theorem dX1_coins_5 : decode cX1_coins 5 = .ok (.pop, 1) := dk_87 (dk_at dksX1_coins_0 5 rfl rfl)
theorem dX1_coins_6 : decode cX1_coins 6 = .ok (.iload_n 2, 1) := dk_28 (dk_at dksX1_coins_0 6 rfl rfl)
theorem dX1_coins_7 : decode cX1_coins 7 = .ok (.iconst 1, 1) := dk_4 (dk_at dksX1_coins_0 7 rfl rfl)
theorem dX1_coins_8 : decode cX1_coins 8 = .ok (.bipush 99, 2) := dk_16 99 (dk_at dksX1_coins_0 8 rfl rfl)
theorem dX1_coins_10 : decode cX1_coins 10 = .ok (.invokestatic 107, 3) := dk_184 0 107 (dk_at dksX1_coins_0 10 rfl rfl)
theorem dX1_coins_13 : decode cX1_coins 13 = .ok (.invokestatic 137, 3) := dk_184 0 137 (dk_at dksX1_coins_0 13 rfl rfl)
theorem dX1_coins_16 : decode cX1_coins 16 = .ok (.aload_n 0, 1) := dk_42 (dk_at dksX1_coins_0 16 rfl rfl)
theorem dX1_coins_17 : decode cX1_coins 17 = .ok (.new 163, 3) := dk_187 0 163 (dk_at dksX1_coins_0 17 rfl rfl)
theorem dX1_coins_20 : decode cX1_coins 20 = .ok (.dup, 1) := dk_89 (dk_at dksX1_coins_0 20 rfl rfl)
theorem dX1_coins_21 : decode cX1_coins 21 = .ok (.aload_n 0, 1) := dk_42 (dk_at dksX1_coins_0 21 rfl rfl)
theorem dX1_coins_22 : decode cX1_coins 22 = .ok (.iload_n 1, 1) := dk_27 (dk_at dksX1_coins_0 22 rfl rfl)
theorem dX1_coins_23 : decode cX1_coins 23 = .ok (.iload_n 2, 1) := dk_28 (dk_at dksX1_coins_0 23 rfl rfl)
theorem dX1_coins_24 : decode cX1_coins 24 = .ok (.invokespecial 165, 3) := dk_183 0 165 (dk_at dksX1_coins_1 0 rfl rfl)
theorem dX1_coins_27 : decode cX1_coins 27 = .ok (.invokevirtual 145, 3) := dk_182 0 145 (dk_at dksX1_coins_1 3 rfl rfl)
theorem dX1_coins_30 : decode cX1_coins 30 = .ok (.ireturn, 1) := dk_172 (dk_at dksX1_coins_1 6 rfl rfl)
abbrev cX1_traderOf : ByteArray := prog_1_method_21_code
def yX1_traderOf : MethodName := ⟨RX1, "traderOf", "(II)I"⟩
def dkwX1_traderOf_5 : List UInt8 := [167, 0, 18, 45, 182, 0, 194, 167, 0, 11, 187, 0, 49, 89, 183, 0, 51, 191, 172]
abbrev dktX1_traderOf_5 : List UInt8 := dkwX1_traderOf_5 ++ []
def dkwX1_traderOf_4 : List UInt8 := [167, 0, 40, 45, 182, 0, 187, 153, 0, 7, 4, 167, 0, 29, 3, 167, 0, 25, 45, 182, 0, 191]
abbrev dktX1_traderOf_4 : List UInt8 := dkwX1_traderOf_4 ++ dktX1_traderOf_5
def dkwX1_traderOf_3 : List UInt8 := [182, 0, 177, 167, 0, 61, 45, 182, 0, 179, 167, 0, 54, 45, 182, 0, 181, 167, 0, 47, 45, 182, 0, 184]
abbrev dktX1_traderOf_3 : List UInt8 := dkwX1_traderOf_3 ++ dktX1_traderOf_4
def dkwX1_traderOf_2 : List UInt8 := [45, 182, 0, 166, 167, 0, 82, 45, 182, 0, 171, 167, 0, 75, 45, 182, 0, 174, 167, 0, 68, 45]
abbrev dktX1_traderOf_2 : List UInt8 := dkwX1_traderOf_2 ++ dktX1_traderOf_3
def dkwX1_traderOf_1 : List UInt8 := [170, 0, 0, 0, 131, 0, 0, 0, 0, 0, 0, 0, 9, 0, 0, 0, 53, 0, 0, 0, 60, 0, 0, 0, 67, 0, 0, 0, 74, 0, 0, 0, 81, 0, 0, 0, 88, 0, 0, 0, 95, 0, 0, 0, 102, 0, 0, 0, 117, 0, 0, 0, 124]
abbrev dktX1_traderOf_1 : List UInt8 := dkwX1_traderOf_1 ++ dktX1_traderOf_2
def dkwX1_traderOf_0 : List UInt8 := [42, 27, 182, 0, 153, 78, 28]
abbrev dktX1_traderOf_0 : List UInt8 := dkwX1_traderOf_0 ++ dktX1_traderOf_1
theorem dksX1_traderOf_0 : cX1_traderOf.data.toList.drop 0 = dktX1_traderOf_0 := by decide +kernel
theorem dksX1_traderOf_1 : cX1_traderOf.data.toList.drop 7 = dktX1_traderOf_1 := dk_seg dksX1_traderOf_0 7 rfl rfl
theorem dksX1_traderOf_2 : cX1_traderOf.data.toList.drop 60 = dktX1_traderOf_2 := dk_seg dksX1_traderOf_1 53 rfl rfl
theorem dksX1_traderOf_3 : cX1_traderOf.data.toList.drop 82 = dktX1_traderOf_3 := dk_seg dksX1_traderOf_2 22 rfl rfl
theorem dksX1_traderOf_4 : cX1_traderOf.data.toList.drop 106 = dktX1_traderOf_4 := dk_seg dksX1_traderOf_3 24 rfl rfl
theorem dksX1_traderOf_5 : cX1_traderOf.data.toList.drop 128 = dktX1_traderOf_5 := dk_seg dksX1_traderOf_4 22 rfl rfl
theorem dX1_traderOf_0 : decode cX1_traderOf 0 = .ok (.aload_n 0, 1) := dk_42 (dk_at dksX1_traderOf_0 0 rfl rfl)
theorem dX1_traderOf_1 : decode cX1_traderOf 1 = .ok (.iload_n 1, 1) := dk_27 (dk_at dksX1_traderOf_0 1 rfl rfl)
theorem dX1_traderOf_2 : decode cX1_traderOf 2 = .ok (.invokevirtual 153, 3) := dk_182 0 153 (dk_at dksX1_traderOf_0 2 rfl rfl)
theorem dX1_traderOf_5 : decode cX1_traderOf 5 = .ok (.astore_n 3, 1) := dk_78 (dk_at dksX1_traderOf_0 5 rfl rfl)
theorem dX1_traderOf_6 : decode cX1_traderOf 6 = .ok (.iload_n 2, 1) := dk_28 (dk_at dksX1_traderOf_0 6 rfl rfl)
theorem dX1_traderOf_7 : decode cX1_traderOf 7 = .ok (.tableswitch 131 0 9 #[53, 60, 67, 74, 81, 88, 95, 102, 117, 124], 53) := by decide +kernel
theorem dX1_traderOf_60 : decode cX1_traderOf 60 = .ok (.aload_n 3, 1) := dk_45 (dk_at dksX1_traderOf_2 0 rfl rfl)
theorem dX1_traderOf_61 : decode cX1_traderOf 61 = .ok (.invokevirtual 166, 3) := dk_182 0 166 (dk_at dksX1_traderOf_2 1 rfl rfl)
theorem dX1_traderOf_64 : decode cX1_traderOf 64 = .ok (.goto 82, 3) := dk_167 0 82 (dk_at dksX1_traderOf_2 4 rfl rfl)
theorem dX1_traderOf_67 : decode cX1_traderOf 67 = .ok (.aload_n 3, 1) := dk_45 (dk_at dksX1_traderOf_2 7 rfl rfl)
theorem dX1_traderOf_68 : decode cX1_traderOf 68 = .ok (.invokevirtual 171, 3) := dk_182 0 171 (dk_at dksX1_traderOf_2 8 rfl rfl)
theorem dX1_traderOf_71 : decode cX1_traderOf 71 = .ok (.goto 75, 3) := dk_167 0 75 (dk_at dksX1_traderOf_2 11 rfl rfl)
theorem dX1_traderOf_74 : decode cX1_traderOf 74 = .ok (.aload_n 3, 1) := dk_45 (dk_at dksX1_traderOf_2 14 rfl rfl)
theorem dX1_traderOf_75 : decode cX1_traderOf 75 = .ok (.invokevirtual 174, 3) := dk_182 0 174 (dk_at dksX1_traderOf_2 15 rfl rfl)
theorem dX1_traderOf_78 : decode cX1_traderOf 78 = .ok (.goto 68, 3) := dk_167 0 68 (dk_at dksX1_traderOf_2 18 rfl rfl)
theorem dX1_traderOf_81 : decode cX1_traderOf 81 = .ok (.aload_n 3, 1) := dk_45 (dk_at dksX1_traderOf_2 21 rfl rfl)
theorem dX1_traderOf_82 : decode cX1_traderOf 82 = .ok (.invokevirtual 177, 3) := dk_182 0 177 (dk_at dksX1_traderOf_3 0 rfl rfl)
theorem dX1_traderOf_85 : decode cX1_traderOf 85 = .ok (.goto 61, 3) := dk_167 0 61 (dk_at dksX1_traderOf_3 3 rfl rfl)
theorem dX1_traderOf_88 : decode cX1_traderOf 88 = .ok (.aload_n 3, 1) := dk_45 (dk_at dksX1_traderOf_3 6 rfl rfl)
theorem dX1_traderOf_89 : decode cX1_traderOf 89 = .ok (.invokevirtual 179, 3) := dk_182 0 179 (dk_at dksX1_traderOf_3 7 rfl rfl)
theorem dX1_traderOf_92 : decode cX1_traderOf 92 = .ok (.goto 54, 3) := dk_167 0 54 (dk_at dksX1_traderOf_3 10 rfl rfl)
theorem dX1_traderOf_95 : decode cX1_traderOf 95 = .ok (.aload_n 3, 1) := dk_45 (dk_at dksX1_traderOf_3 13 rfl rfl)
theorem dX1_traderOf_96 : decode cX1_traderOf 96 = .ok (.invokevirtual 181, 3) := dk_182 0 181 (dk_at dksX1_traderOf_3 14 rfl rfl)
theorem dX1_traderOf_99 : decode cX1_traderOf 99 = .ok (.goto 47, 3) := dk_167 0 47 (dk_at dksX1_traderOf_3 17 rfl rfl)
theorem dX1_traderOf_102 : decode cX1_traderOf 102 = .ok (.aload_n 3, 1) := dk_45 (dk_at dksX1_traderOf_3 20 rfl rfl)
theorem dX1_traderOf_103 : decode cX1_traderOf 103 = .ok (.invokevirtual 184, 3) := dk_182 0 184 (dk_at dksX1_traderOf_3 21 rfl rfl)
theorem dX1_traderOf_106 : decode cX1_traderOf 106 = .ok (.goto 40, 3) := dk_167 0 40 (dk_at dksX1_traderOf_4 0 rfl rfl)
theorem dX1_traderOf_109 : decode cX1_traderOf 109 = .ok (.aload_n 3, 1) := dk_45 (dk_at dksX1_traderOf_4 3 rfl rfl)
theorem dX1_traderOf_110 : decode cX1_traderOf 110 = .ok (.invokevirtual 187, 3) := dk_182 0 187 (dk_at dksX1_traderOf_4 4 rfl rfl)
theorem dX1_traderOf_113 : decode cX1_traderOf 113 = .ok (.ifCond .eq 7, 3) := dk_153 0 7 (dk_at dksX1_traderOf_4 7 rfl rfl)
theorem dX1_traderOf_116 : decode cX1_traderOf 116 = .ok (.iconst 1, 1) := dk_4 (dk_at dksX1_traderOf_4 10 rfl rfl)
theorem dX1_traderOf_117 : decode cX1_traderOf 117 = .ok (.goto 29, 3) := dk_167 0 29 (dk_at dksX1_traderOf_4 11 rfl rfl)
theorem dX1_traderOf_120 : decode cX1_traderOf 120 = .ok (.iconst 0, 1) := dk_3 (dk_at dksX1_traderOf_4 14 rfl rfl)
theorem dX1_traderOf_121 : decode cX1_traderOf 121 = .ok (.goto 25, 3) := dk_167 0 25 (dk_at dksX1_traderOf_4 15 rfl rfl)
theorem dX1_traderOf_124 : decode cX1_traderOf 124 = .ok (.aload_n 3, 1) := dk_45 (dk_at dksX1_traderOf_4 18 rfl rfl)
theorem dX1_traderOf_125 : decode cX1_traderOf 125 = .ok (.invokevirtual 191, 3) := dk_182 0 191 (dk_at dksX1_traderOf_4 19 rfl rfl)
theorem dX1_traderOf_128 : decode cX1_traderOf 128 = .ok (.goto 18, 3) := dk_167 0 18 (dk_at dksX1_traderOf_5 0 rfl rfl)
theorem dX1_traderOf_131 : decode cX1_traderOf 131 = .ok (.aload_n 3, 1) := dk_45 (dk_at dksX1_traderOf_5 3 rfl rfl)
theorem dX1_traderOf_132 : decode cX1_traderOf 132 = .ok (.invokevirtual 194, 3) := dk_182 0 194 (dk_at dksX1_traderOf_5 4 rfl rfl)
theorem dX1_traderOf_135 : decode cX1_traderOf 135 = .ok (.goto 11, 3) := dk_167 0 11 (dk_at dksX1_traderOf_5 7 rfl rfl)
theorem dX1_traderOf_138 : decode cX1_traderOf 138 = .ok (.new 49, 3) := dk_187 0 49 (dk_at dksX1_traderOf_5 10 rfl rfl)
theorem dX1_traderOf_141 : decode cX1_traderOf 141 = .ok (.dup, 1) := dk_89 (dk_at dksX1_traderOf_5 13 rfl rfl)
theorem dX1_traderOf_142 : decode cX1_traderOf 142 = .ok (.invokespecial 51, 3) := dk_183 0 51 (dk_at dksX1_traderOf_5 14 rfl rfl)
theorem dX1_traderOf_145 : decode cX1_traderOf 145 = .ok (.athrow, 1) := dk_191 (dk_at dksX1_traderOf_5 17 rfl rfl)
theorem dX1_traderOf_146 : decode cX1_traderOf 146 = .ok (.ireturn, 1) := dk_172 (dk_at dksX1_traderOf_5 18 rfl rfl)
abbrev cX1_traderAt : ByteArray := prog_1_method_22_code
def yX1_traderAt : MethodName := ⟨RX1, "traderAt", "(II)I"⟩
def dkwX1_traderAt_2 : List UInt8 := [160, 0, 9, 25, 5, 182, 0, 215, 172, 132, 3, 1, 167, 255, 220, 187, 0, 58, 89, 183, 0, 60, 191]
abbrev dktX1_traderAt_2 : List UInt8 := dkwX1_traderAt_2 ++ []
def dkwX1_traderAt_1 : List UInt8 := [185, 0, 207, 1, 0, 153, 0, 32, 25, 4, 185, 0, 212, 1, 0, 192, 0, 167, 58, 5, 29, 28]
abbrev dktX1_traderAt_1 : List UInt8 := dkwX1_traderAt_1 ++ dktX1_traderAt_2
def dkwX1_traderAt_0 : List UInt8 := [27, 184, 0, 133, 3, 62, 42, 180, 0, 21, 27, 182, 0, 197, 185, 0, 201, 1, 0, 58, 4, 25, 4]
abbrev dktX1_traderAt_0 : List UInt8 := dkwX1_traderAt_0 ++ dktX1_traderAt_1
theorem dksX1_traderAt_0 : cX1_traderAt.data.toList.drop 0 = dktX1_traderAt_0 := by decide +kernel
theorem dksX1_traderAt_1 : cX1_traderAt.data.toList.drop 23 = dktX1_traderAt_1 := dk_seg dksX1_traderAt_0 23 rfl rfl
theorem dksX1_traderAt_2 : cX1_traderAt.data.toList.drop 45 = dktX1_traderAt_2 := dk_seg dksX1_traderAt_1 22 rfl rfl
theorem dX1_traderAt_0 : decode cX1_traderAt 0 = .ok (.iload_n 1, 1) := dk_27 (dk_at dksX1_traderAt_0 0 rfl rfl)
theorem dX1_traderAt_1 : decode cX1_traderAt 1 = .ok (.invokestatic 133, 3) := dk_184 0 133 (dk_at dksX1_traderAt_0 1 rfl rfl)
theorem dX1_traderAt_4 : decode cX1_traderAt 4 = .ok (.iconst 0, 1) := dk_3 (dk_at dksX1_traderAt_0 4 rfl rfl)
theorem dX1_traderAt_5 : decode cX1_traderAt 5 = .ok (.istore_n 3, 1) := dk_62 (dk_at dksX1_traderAt_0 5 rfl rfl)
theorem dX1_traderAt_6 : decode cX1_traderAt 6 = .ok (.aload_n 0, 1) := dk_42 (dk_at dksX1_traderAt_0 6 rfl rfl)
theorem dX1_traderAt_7 : decode cX1_traderAt 7 = .ok (.getfield 21, 3) := dk_180 0 21 (dk_at dksX1_traderAt_0 7 rfl rfl)
theorem dX1_traderAt_10 : decode cX1_traderAt 10 = .ok (.iload_n 1, 1) := dk_27 (dk_at dksX1_traderAt_0 10 rfl rfl)
theorem dX1_traderAt_11 : decode cX1_traderAt 11 = .ok (.invokevirtual 197, 3) := dk_182 0 197 (dk_at dksX1_traderAt_0 11 rfl rfl)
theorem dX1_traderAt_14 : decode cX1_traderAt 14 = .ok (.invokeinterface 201 1, 5) := by decide +kernel
theorem dX1_traderAt_19 : decode cX1_traderAt 19 = .ok (.astore 4, 2) := dk_58 4 (dk_at dksX1_traderAt_0 19 rfl rfl)
theorem dX1_traderAt_21 : decode cX1_traderAt 21 = .ok (.aload 4, 2) := dk_25 4 (dk_at dksX1_traderAt_0 21 rfl rfl)
theorem dX1_traderAt_23 : decode cX1_traderAt 23 = .ok (.invokeinterface 207 1, 5) := by decide +kernel
theorem dX1_traderAt_28 : decode cX1_traderAt 28 = .ok (.ifCond .eq 32, 3) := dk_153 0 32 (dk_at dksX1_traderAt_1 5 rfl rfl)
theorem dX1_traderAt_31 : decode cX1_traderAt 31 = .ok (.aload 4, 2) := dk_25 4 (dk_at dksX1_traderAt_1 8 rfl rfl)
theorem dX1_traderAt_33 : decode cX1_traderAt 33 = .ok (.invokeinterface 212 1, 5) := by decide +kernel
theorem dX1_traderAt_38 : decode cX1_traderAt 38 = .ok (.checkcast 167, 3) := dk_192 0 167 (dk_at dksX1_traderAt_1 15 rfl rfl)
theorem dX1_traderAt_41 : decode cX1_traderAt 41 = .ok (.astore 5, 2) := dk_58 5 (dk_at dksX1_traderAt_1 18 rfl rfl)
theorem dX1_traderAt_43 : decode cX1_traderAt 43 = .ok (.iload_n 3, 1) := dk_29 (dk_at dksX1_traderAt_1 20 rfl rfl)
theorem dX1_traderAt_44 : decode cX1_traderAt 44 = .ok (.iload_n 2, 1) := dk_28 (dk_at dksX1_traderAt_1 21 rfl rfl)
theorem dX1_traderAt_45 : decode cX1_traderAt 45 = .ok (.if_icmp .ne 9, 3) := dk_160 0 9 (dk_at dksX1_traderAt_2 0 rfl rfl)
theorem dX1_traderAt_48 : decode cX1_traderAt 48 = .ok (.aload 5, 2) := dk_25 5 (dk_at dksX1_traderAt_2 3 rfl rfl)
theorem dX1_traderAt_50 : decode cX1_traderAt 50 = .ok (.invokevirtual 215, 3) := dk_182 0 215 (dk_at dksX1_traderAt_2 5 rfl rfl)
theorem dX1_traderAt_53 : decode cX1_traderAt 53 = .ok (.ireturn, 1) := dk_172 (dk_at dksX1_traderAt_2 8 rfl rfl)
theorem dX1_traderAt_54 : decode cX1_traderAt 54 = .ok (.iinc 3 1, 3) := dk_132 3 1 (dk_at dksX1_traderAt_2 9 rfl rfl)
theorem dX1_traderAt_57 : decode cX1_traderAt 57 = .ok (.goto (-36), 3) := dk_167 255 220 (dk_at dksX1_traderAt_2 12 rfl rfl)
theorem dX1_traderAt_60 : decode cX1_traderAt 60 = .ok (.new 58, 3) := dk_187 0 58 (dk_at dksX1_traderAt_2 15 rfl rfl)
theorem dX1_traderAt_63 : decode cX1_traderAt 63 = .ok (.dup, 1) := dk_89 (dk_at dksX1_traderAt_2 18 rfl rfl)
theorem dX1_traderAt_64 : decode cX1_traderAt 64 = .ok (.invokespecial 60, 3) := dk_183 0 60 (dk_at dksX1_traderAt_2 19 rfl rfl)
theorem dX1_traderAt_67 : decode cX1_traderAt 67 = .ok (.athrow, 1) := dk_191 (dk_at dksX1_traderAt_2 22 rfl rfl)
abbrev cX1_fairOf : ByteArray := prog_1_method_23_code
def yX1_fairOf : MethodName := ⟨RX1, "fairOf", "(II)I"⟩
def dkwX1_fairOf_4 : List UInt8 := [167, 0, 22, 42, 180, 0, 21, 27, 182, 0, 231, 167, 0, 11, 187, 0, 49, 89, 183, 0, 51, 191, 172]
abbrev dktX1_fairOf_4 : List UInt8 := dkwX1_fairOf_4 ++ []
def dkwX1_fairOf_3 : List UInt8 := [180, 0, 21, 27, 182, 0, 225, 167, 0, 38, 27, 42, 180, 0, 21, 182, 0, 228, 100, 8, 96, 8, 112]
abbrev dktX1_fairOf_3 : List UInt8 := dkwX1_fairOf_3 ++ dktX1_fairOf_4
def dkwX1_fairOf_2 : List UInt8 := [42, 180, 0, 21, 27, 182, 0, 218, 167, 0, 60, 42, 180, 0, 21, 27, 182, 0, 222, 167, 0, 49, 42]
abbrev dktX1_fairOf_2 : List UInt8 := dkwX1_fairOf_2 ++ dktX1_fairOf_3
def dkwX1_fairOf_1 : List UInt8 := [170, 0, 0, 0, 0, 0, 95, 0, 0, 0, 0, 0, 0, 0, 4, 0, 0, 0, 35, 0, 0, 0, 46, 0, 0, 0, 57, 0, 0, 0, 68, 0, 0, 0, 84]
abbrev dktX1_fairOf_1 : List UInt8 := dkwX1_fairOf_1 ++ dktX1_fairOf_2
def dkwX1_fairOf_0 : List UInt8 := [27, 184, 0, 133, 28]
abbrev dktX1_fairOf_0 : List UInt8 := dkwX1_fairOf_0 ++ dktX1_fairOf_1
theorem dksX1_fairOf_0 : cX1_fairOf.data.toList.drop 0 = dktX1_fairOf_0 := by decide +kernel
theorem dksX1_fairOf_1 : cX1_fairOf.data.toList.drop 5 = dktX1_fairOf_1 := dk_seg dksX1_fairOf_0 5 rfl rfl
theorem dksX1_fairOf_2 : cX1_fairOf.data.toList.drop 40 = dktX1_fairOf_2 := dk_seg dksX1_fairOf_1 35 rfl rfl
theorem dksX1_fairOf_3 : cX1_fairOf.data.toList.drop 63 = dktX1_fairOf_3 := dk_seg dksX1_fairOf_2 23 rfl rfl
theorem dksX1_fairOf_4 : cX1_fairOf.data.toList.drop 86 = dktX1_fairOf_4 := dk_seg dksX1_fairOf_3 23 rfl rfl
theorem dX1_fairOf_0 : decode cX1_fairOf 0 = .ok (.iload_n 1, 1) := dk_27 (dk_at dksX1_fairOf_0 0 rfl rfl)
theorem dX1_fairOf_1 : decode cX1_fairOf 1 = .ok (.invokestatic 133, 3) := dk_184 0 133 (dk_at dksX1_fairOf_0 1 rfl rfl)
theorem dX1_fairOf_4 : decode cX1_fairOf 4 = .ok (.iload_n 2, 1) := dk_28 (dk_at dksX1_fairOf_0 4 rfl rfl)
theorem dX1_fairOf_5 : decode cX1_fairOf 5 = .ok (.tableswitch 95 0 4 #[35, 46, 57, 68, 84], 35) := by decide +kernel
theorem dX1_fairOf_40 : decode cX1_fairOf 40 = .ok (.aload_n 0, 1) := dk_42 (dk_at dksX1_fairOf_2 0 rfl rfl)
theorem dX1_fairOf_41 : decode cX1_fairOf 41 = .ok (.getfield 21, 3) := dk_180 0 21 (dk_at dksX1_fairOf_2 1 rfl rfl)
theorem dX1_fairOf_44 : decode cX1_fairOf 44 = .ok (.iload_n 1, 1) := dk_27 (dk_at dksX1_fairOf_2 4 rfl rfl)
theorem dX1_fairOf_45 : decode cX1_fairOf 45 = .ok (.invokevirtual 218, 3) := dk_182 0 218 (dk_at dksX1_fairOf_2 5 rfl rfl)
theorem dX1_fairOf_48 : decode cX1_fairOf 48 = .ok (.goto 60, 3) := dk_167 0 60 (dk_at dksX1_fairOf_2 8 rfl rfl)
theorem dX1_fairOf_51 : decode cX1_fairOf 51 = .ok (.aload_n 0, 1) := dk_42 (dk_at dksX1_fairOf_2 11 rfl rfl)
theorem dX1_fairOf_52 : decode cX1_fairOf 52 = .ok (.getfield 21, 3) := dk_180 0 21 (dk_at dksX1_fairOf_2 12 rfl rfl)
theorem dX1_fairOf_55 : decode cX1_fairOf 55 = .ok (.iload_n 1, 1) := dk_27 (dk_at dksX1_fairOf_2 15 rfl rfl)
theorem dX1_fairOf_56 : decode cX1_fairOf 56 = .ok (.invokevirtual 222, 3) := dk_182 0 222 (dk_at dksX1_fairOf_2 16 rfl rfl)
theorem dX1_fairOf_59 : decode cX1_fairOf 59 = .ok (.goto 49, 3) := dk_167 0 49 (dk_at dksX1_fairOf_2 19 rfl rfl)
theorem dX1_fairOf_62 : decode cX1_fairOf 62 = .ok (.aload_n 0, 1) := dk_42 (dk_at dksX1_fairOf_2 22 rfl rfl)
theorem dX1_fairOf_63 : decode cX1_fairOf 63 = .ok (.getfield 21, 3) := dk_180 0 21 (dk_at dksX1_fairOf_3 0 rfl rfl)
theorem dX1_fairOf_66 : decode cX1_fairOf 66 = .ok (.iload_n 1, 1) := dk_27 (dk_at dksX1_fairOf_3 3 rfl rfl)
theorem dX1_fairOf_67 : decode cX1_fairOf 67 = .ok (.invokevirtual 225, 3) := dk_182 0 225 (dk_at dksX1_fairOf_3 4 rfl rfl)
theorem dX1_fairOf_70 : decode cX1_fairOf 70 = .ok (.goto 38, 3) := dk_167 0 38 (dk_at dksX1_fairOf_3 7 rfl rfl)
theorem dX1_fairOf_73 : decode cX1_fairOf 73 = .ok (.iload_n 1, 1) := dk_27 (dk_at dksX1_fairOf_3 10 rfl rfl)
theorem dX1_fairOf_74 : decode cX1_fairOf 74 = .ok (.aload_n 0, 1) := dk_42 (dk_at dksX1_fairOf_3 11 rfl rfl)
theorem dX1_fairOf_75 : decode cX1_fairOf 75 = .ok (.getfield 21, 3) := dk_180 0 21 (dk_at dksX1_fairOf_3 12 rfl rfl)
theorem dX1_fairOf_78 : decode cX1_fairOf 78 = .ok (.invokevirtual 228, 3) := dk_182 0 228 (dk_at dksX1_fairOf_3 15 rfl rfl)
theorem dX1_fairOf_81 : decode cX1_fairOf 81 = .ok (.isub, 1) := dk_100 (dk_at dksX1_fairOf_3 18 rfl rfl)
theorem dX1_fairOf_82 : decode cX1_fairOf 82 = .ok (.iconst 5, 1) := dk_8 (dk_at dksX1_fairOf_3 19 rfl rfl)
theorem dX1_fairOf_83 : decode cX1_fairOf 83 = .ok (.iadd, 1) := dk_96 (dk_at dksX1_fairOf_3 20 rfl rfl)
theorem dX1_fairOf_84 : decode cX1_fairOf 84 = .ok (.iconst 5, 1) := dk_8 (dk_at dksX1_fairOf_3 21 rfl rfl)
theorem dX1_fairOf_85 : decode cX1_fairOf 85 = .ok (.irem, 1) := dk_112 (dk_at dksX1_fairOf_3 22 rfl rfl)
theorem dX1_fairOf_86 : decode cX1_fairOf 86 = .ok (.goto 22, 3) := dk_167 0 22 (dk_at dksX1_fairOf_4 0 rfl rfl)
theorem dX1_fairOf_89 : decode cX1_fairOf 89 = .ok (.aload_n 0, 1) := dk_42 (dk_at dksX1_fairOf_4 3 rfl rfl)
theorem dX1_fairOf_90 : decode cX1_fairOf 90 = .ok (.getfield 21, 3) := dk_180 0 21 (dk_at dksX1_fairOf_4 4 rfl rfl)
theorem dX1_fairOf_93 : decode cX1_fairOf 93 = .ok (.iload_n 1, 1) := dk_27 (dk_at dksX1_fairOf_4 7 rfl rfl)
theorem dX1_fairOf_94 : decode cX1_fairOf 94 = .ok (.invokevirtual 231, 3) := dk_182 0 231 (dk_at dksX1_fairOf_4 8 rfl rfl)
theorem dX1_fairOf_97 : decode cX1_fairOf 97 = .ok (.goto 11, 3) := dk_167 0 11 (dk_at dksX1_fairOf_4 11 rfl rfl)
theorem dX1_fairOf_100 : decode cX1_fairOf 100 = .ok (.new 49, 3) := dk_187 0 49 (dk_at dksX1_fairOf_4 14 rfl rfl)
theorem dX1_fairOf_103 : decode cX1_fairOf 103 = .ok (.dup, 1) := dk_89 (dk_at dksX1_fairOf_4 17 rfl rfl)
theorem dX1_fairOf_104 : decode cX1_fairOf 104 = .ok (.invokespecial 51, 3) := dk_183 0 51 (dk_at dksX1_fairOf_4 18 rfl rfl)
theorem dX1_fairOf_107 : decode cX1_fairOf 107 = .ok (.athrow, 1) := dk_191 (dk_at dksX1_fairOf_4 21 rfl rfl)
theorem dX1_fairOf_108 : decode cX1_fairOf 108 = .ok (.ireturn, 1) := dk_172 (dk_at dksX1_fairOf_4 22 rfl rfl)
abbrev cX1_next : ByteArray := prog_1_method_24_code
def yX1_next : MethodName := ⟨RX1, "next", "()I"⟩
def dkwX1_next_1 : List UInt8 := [172]
abbrev dktX1_next_1 : List UInt8 := dkwX1_next_1 ++ []
def dkwX1_next_0 : List UInt8 := [42, 180, 0, 21, 182, 0, 234, 76, 43, 198, 0, 7, 4, 167, 0, 4, 3, 184, 0, 237, 43, 182, 0, 215]
abbrev dktX1_next_0 : List UInt8 := dkwX1_next_0 ++ dktX1_next_1
theorem dksX1_next_0 : cX1_next.data.toList.drop 0 = dktX1_next_0 := by decide +kernel
theorem dksX1_next_1 : cX1_next.data.toList.drop 24 = dktX1_next_1 := dk_seg dksX1_next_0 24 rfl rfl
theorem dX1_next_0 : decode cX1_next 0 = .ok (.aload_n 0, 1) := dk_42 (dk_at dksX1_next_0 0 rfl rfl)
theorem dX1_next_1 : decode cX1_next 1 = .ok (.getfield 21, 3) := dk_180 0 21 (dk_at dksX1_next_0 1 rfl rfl)
theorem dX1_next_4 : decode cX1_next 4 = .ok (.invokevirtual 234, 3) := dk_182 0 234 (dk_at dksX1_next_0 4 rfl rfl)
theorem dX1_next_7 : decode cX1_next 7 = .ok (.astore_n 1, 1) := dk_76 (dk_at dksX1_next_0 7 rfl rfl)
theorem dX1_next_8 : decode cX1_next 8 = .ok (.aload_n 1, 1) := dk_43 (dk_at dksX1_next_0 8 rfl rfl)
theorem dX1_next_9 : decode cX1_next 9 = .ok (.ifnull 7, 3) := dk_198 0 7 (dk_at dksX1_next_0 9 rfl rfl)
theorem dX1_next_12 : decode cX1_next 12 = .ok (.iconst 1, 1) := dk_4 (dk_at dksX1_next_0 12 rfl rfl)
theorem dX1_next_13 : decode cX1_next 13 = .ok (.goto 4, 3) := dk_167 0 4 (dk_at dksX1_next_0 13 rfl rfl)
theorem dX1_next_16 : decode cX1_next 16 = .ok (.iconst 0, 1) := dk_3 (dk_at dksX1_next_0 16 rfl rfl)
theorem dX1_next_17 : decode cX1_next 17 = .ok (.invokestatic 237, 3) := dk_184 0 237 (dk_at dksX1_next_0 17 rfl rfl)
theorem dX1_next_20 : decode cX1_next 20 = .ok (.aload_n 1, 1) := dk_43 (dk_at dksX1_next_0 20 rfl rfl)
theorem dX1_next_21 : decode cX1_next 21 = .ok (.invokevirtual 215, 3) := dk_182 0 215 (dk_at dksX1_next_0 21 rfl rfl)
theorem dX1_next_24 : decode cX1_next 24 = .ok (.ireturn, 1) := dk_172 (dk_at dksX1_next_1 0 rfl rfl)
abbrev cX1_requireElement : ByteArray := prog_1_method_9_code
def yX1_requireElement : MethodName := ⟨RX1, "requireElement", "(Z)V"⟩
def dkwX1_requireElement_0 : List UInt8 := [26, 154, 0, 11, 187, 0, 58, 89, 183, 0, 60, 191, 177]
abbrev dktX1_requireElement_0 : List UInt8 := dkwX1_requireElement_0 ++ []
theorem dksX1_requireElement_0 : cX1_requireElement.data.toList.drop 0 = dktX1_requireElement_0 := by decide +kernel
theorem dX1_requireElement_0 : decode cX1_requireElement 0 = .ok (.iload_n 0, 1) := dk_26 (dk_at dksX1_requireElement_0 0 rfl rfl)
theorem dX1_requireElement_1 : decode cX1_requireElement 1 = .ok (.ifCond .ne 11, 3) := dk_154 0 11 (dk_at dksX1_requireElement_0 1 rfl rfl)
theorem dX1_requireElement_4 : decode cX1_requireElement 4 = .ok (.new 58, 3) := dk_187 0 58 (dk_at dksX1_requireElement_0 4 rfl rfl)
theorem dX1_requireElement_7 : decode cX1_requireElement 7 = .ok (.dup, 1) := dk_89 (dk_at dksX1_requireElement_0 7 rfl rfl)
theorem dX1_requireElement_8 : decode cX1_requireElement 8 = .ok (.invokespecial 60, 3) := dk_183 0 60 (dk_at dksX1_requireElement_0 8 rfl rfl)
theorem dX1_requireElement_11 : decode cX1_requireElement 11 = .ok (.athrow, 1) := dk_191 (dk_at dksX1_requireElement_0 11 rfl rfl)
theorem dX1_requireElement_12 : decode cX1_requireElement 12 = .ok (.return_, 1) := dk_177 (dk_at dksX1_requireElement_0 12 rfl rfl)
abbrev cX1_weight : ByteArray := prog_1_method_25_code
def yX1_weight : MethodName := ⟨RX1, "weight", "(I)I"⟩
def dkwX1_weight_0 : List UInt8 := [27, 4, 16, 64, 184, 0, 107, 184, 0, 137, 42, 187, 0, 240, 89, 42, 27, 183, 0, 242, 182, 0, 145, 172]
abbrev dktX1_weight_0 : List UInt8 := dkwX1_weight_0 ++ []
theorem dksX1_weight_0 : cX1_weight.data.toList.drop 0 = dktX1_weight_0 := by decide +kernel
theorem dX1_weight_0 : decode cX1_weight 0 = .ok (.iload_n 1, 1) := dk_27 (dk_at dksX1_weight_0 0 rfl rfl)
theorem dX1_weight_1 : decode cX1_weight 1 = .ok (.iconst 1, 1) := dk_4 (dk_at dksX1_weight_0 1 rfl rfl)
theorem dX1_weight_2 : decode cX1_weight 2 = .ok (.bipush 64, 2) := dk_16 64 (dk_at dksX1_weight_0 2 rfl rfl)
theorem dX1_weight_4 : decode cX1_weight 4 = .ok (.invokestatic 107, 3) := dk_184 0 107 (dk_at dksX1_weight_0 4 rfl rfl)
theorem dX1_weight_7 : decode cX1_weight 7 = .ok (.invokestatic 137, 3) := dk_184 0 137 (dk_at dksX1_weight_0 7 rfl rfl)
theorem dX1_weight_10 : decode cX1_weight 10 = .ok (.aload_n 0, 1) := dk_42 (dk_at dksX1_weight_0 10 rfl rfl)
theorem dX1_weight_11 : decode cX1_weight 11 = .ok (.new 240, 3) := dk_187 0 240 (dk_at dksX1_weight_0 11 rfl rfl)
theorem dX1_weight_14 : decode cX1_weight 14 = .ok (.dup, 1) := dk_89 (dk_at dksX1_weight_0 14 rfl rfl)
theorem dX1_weight_15 : decode cX1_weight 15 = .ok (.aload_n 0, 1) := dk_42 (dk_at dksX1_weight_0 15 rfl rfl)
theorem dX1_weight_16 : decode cX1_weight 16 = .ok (.iload_n 1, 1) := dk_27 (dk_at dksX1_weight_0 16 rfl rfl)
theorem dX1_weight_17 : decode cX1_weight 17 = .ok (.invokespecial 242, 3) := dk_183 0 242 (dk_at dksX1_weight_0 17 rfl rfl)
theorem dX1_weight_20 : decode cX1_weight 20 = .ok (.invokevirtual 145, 3) := dk_182 0 145 (dk_at dksX1_weight_0 20 rfl rfl)
theorem dX1_weight_23 : decode cX1_weight 23 = .ok (.ireturn, 1) := dk_172 (dk_at dksX1_weight_0 23 rfl rfl)
abbrev cX1_polish : ByteArray := prog_1_method_26_code
def yX1_polish : MethodName := ⟨RX1, "polish", "(I)I"⟩
def dkwX1_polish_0 : List UInt8 := [42, 27, 182, 0, 245, 87, 42, 187, 0, 248, 89, 42, 27, 183, 0, 250, 182, 0, 145, 172]
abbrev dktX1_polish_0 : List UInt8 := dkwX1_polish_0 ++ []
theorem dksX1_polish_0 : cX1_polish.data.toList.drop 0 = dktX1_polish_0 := by decide +kernel
theorem dX1_polish_0 : decode cX1_polish 0 = .ok (.aload_n 0, 1) := dk_42 (dk_at dksX1_polish_0 0 rfl rfl)
theorem dX1_polish_1 : decode cX1_polish 1 = .ok (.iload_n 1, 1) := dk_27 (dk_at dksX1_polish_0 1 rfl rfl)
theorem dX1_polish_2 : decode cX1_polish 2 = .ok (.invokevirtual 245, 3) := dk_182 0 245 (dk_at dksX1_polish_0 2 rfl rfl)
theorem dX1_polish_5 : decode cX1_polish 5 = .ok (.pop, 1) := dk_87 (dk_at dksX1_polish_0 5 rfl rfl)
theorem dX1_polish_6 : decode cX1_polish 6 = .ok (.aload_n 0, 1) := dk_42 (dk_at dksX1_polish_0 6 rfl rfl)
theorem dX1_polish_7 : decode cX1_polish 7 = .ok (.new 248, 3) := dk_187 0 248 (dk_at dksX1_polish_0 7 rfl rfl)
theorem dX1_polish_10 : decode cX1_polish 10 = .ok (.dup, 1) := dk_89 (dk_at dksX1_polish_0 10 rfl rfl)
theorem dX1_polish_11 : decode cX1_polish 11 = .ok (.aload_n 0, 1) := dk_42 (dk_at dksX1_polish_0 11 rfl rfl)
theorem dX1_polish_12 : decode cX1_polish 12 = .ok (.iload_n 1, 1) := dk_27 (dk_at dksX1_polish_0 12 rfl rfl)
theorem dX1_polish_13 : decode cX1_polish 13 = .ok (.invokespecial 250, 3) := dk_183 0 250 (dk_at dksX1_polish_0 13 rfl rfl)
theorem dX1_polish_16 : decode cX1_polish 16 = .ok (.invokevirtual 145, 3) := dk_182 0 145 (dk_at dksX1_polish_0 16 rfl rfl)
theorem dX1_polish_19 : decode cX1_polish 19 = .ok (.ireturn, 1) := dk_172 (dk_at dksX1_polish_0 19 rfl rfl)
abbrev cX1_weightIn : ByteArray := prog_1_method_16_code
def yX1_weightIn : MethodName := ⟨RX1, "weightIn", "(I)LBrassInspector$Brass;"⟩
def dkwX1_weightIn_1 : List UInt8 := [180, 0, 21, 27, 182, 0, 129, 176]
abbrev dktX1_weightIn_1 : List UInt8 := dkwX1_weightIn_1 ++ []
def dkwX1_weightIn_0 : List UInt8 := [27, 3, 42, 180, 0, 21, 182, 0, 126, 185, 0, 119, 1, 0, 4, 100, 184, 0, 107, 184, 0, 111, 42]
abbrev dktX1_weightIn_0 : List UInt8 := dkwX1_weightIn_0 ++ dktX1_weightIn_1
theorem dksX1_weightIn_0 : cX1_weightIn.data.toList.drop 0 = dktX1_weightIn_0 := by decide +kernel
theorem dksX1_weightIn_1 : cX1_weightIn.data.toList.drop 23 = dktX1_weightIn_1 := dk_seg dksX1_weightIn_0 23 rfl rfl
theorem dX1_weightIn_0 : decode cX1_weightIn 0 = .ok (.iload_n 1, 1) := dk_27 (dk_at dksX1_weightIn_0 0 rfl rfl)
theorem dX1_weightIn_1 : decode cX1_weightIn 1 = .ok (.iconst 0, 1) := dk_3 (dk_at dksX1_weightIn_0 1 rfl rfl)
theorem dX1_weightIn_2 : decode cX1_weightIn 2 = .ok (.aload_n 0, 1) := dk_42 (dk_at dksX1_weightIn_0 2 rfl rfl)
theorem dX1_weightIn_3 : decode cX1_weightIn 3 = .ok (.getfield 21, 3) := dk_180 0 21 (dk_at dksX1_weightIn_0 3 rfl rfl)
theorem dX1_weightIn_6 : decode cX1_weightIn 6 = .ok (.invokevirtual 126, 3) := dk_182 0 126 (dk_at dksX1_weightIn_0 6 rfl rfl)
theorem dX1_weightIn_9 : decode cX1_weightIn 9 = .ok (.invokeinterface 119 1, 5) := by decide +kernel
theorem dX1_weightIn_14 : decode cX1_weightIn 14 = .ok (.iconst 1, 1) := dk_4 (dk_at dksX1_weightIn_0 14 rfl rfl)
theorem dX1_weightIn_15 : decode cX1_weightIn 15 = .ok (.isub, 1) := dk_100 (dk_at dksX1_weightIn_0 15 rfl rfl)
theorem dX1_weightIn_16 : decode cX1_weightIn 16 = .ok (.invokestatic 107, 3) := dk_184 0 107 (dk_at dksX1_weightIn_0 16 rfl rfl)
theorem dX1_weightIn_19 : decode cX1_weightIn 19 = .ok (.invokestatic 111, 3) := dk_184 0 111 (dk_at dksX1_weightIn_0 19 rfl rfl)
theorem dX1_weightIn_22 : decode cX1_weightIn 22 = .ok (.aload_n 0, 1) := dk_42 (dk_at dksX1_weightIn_0 22 rfl rfl)
theorem dX1_weightIn_23 : decode cX1_weightIn 23 = .ok (.getfield 21, 3) := dk_180 0 21 (dk_at dksX1_weightIn_1 0 rfl rfl)
theorem dX1_weightIn_26 : decode cX1_weightIn 26 = .ok (.iload_n 1, 1) := dk_27 (dk_at dksX1_weightIn_1 3 rfl rfl)
theorem dX1_weightIn_27 : decode cX1_weightIn 27 = .ok (.invokevirtual 129, 3) := dk_182 0 129 (dk_at dksX1_weightIn_1 4 rfl rfl)
theorem dX1_weightIn_30 : decode cX1_weightIn 30 = .ok (.areturn, 1) := dk_176 (dk_at dksX1_weightIn_1 7 rfl rfl)
abbrev cX1_weightOf : ByteArray := prog_1_method_27_code
def yX1_weightOf : MethodName := ⟨RX1, "weightOf", "(II)I"⟩
def dkwX1_weightOf_3 : List UInt8 := [89, 183, 0, 51, 191, 172]
abbrev dktX1_weightOf_3 : List UInt8 := dkwX1_weightOf_3 ++ []
def dkwX1_weightOf_2 : List UInt8 := [45, 182, 0, 251, 167, 0, 25, 45, 182, 1, 0, 167, 0, 18, 45, 182, 1, 3, 167, 0, 11, 187, 0, 49]
abbrev dktX1_weightOf_2 : List UInt8 := dkwX1_weightOf_2 ++ dktX1_weightOf_3
def dkwX1_weightOf_1 : List UInt8 := [170, 0, 0, 0, 46, 0, 0, 0, 0, 0, 0, 0, 2, 0, 0, 0, 25, 0, 0, 0, 32, 0, 0, 0, 39]
abbrev dktX1_weightOf_1 : List UInt8 := dkwX1_weightOf_1 ++ dktX1_weightOf_2
def dkwX1_weightOf_0 : List UInt8 := [42, 27, 182, 0, 245, 78, 28]
abbrev dktX1_weightOf_0 : List UInt8 := dkwX1_weightOf_0 ++ dktX1_weightOf_1
theorem dksX1_weightOf_0 : cX1_weightOf.data.toList.drop 0 = dktX1_weightOf_0 := by decide +kernel
theorem dksX1_weightOf_1 : cX1_weightOf.data.toList.drop 7 = dktX1_weightOf_1 := dk_seg dksX1_weightOf_0 7 rfl rfl
theorem dksX1_weightOf_2 : cX1_weightOf.data.toList.drop 32 = dktX1_weightOf_2 := dk_seg dksX1_weightOf_1 25 rfl rfl
theorem dksX1_weightOf_3 : cX1_weightOf.data.toList.drop 56 = dktX1_weightOf_3 := dk_seg dksX1_weightOf_2 24 rfl rfl
theorem dX1_weightOf_0 : decode cX1_weightOf 0 = .ok (.aload_n 0, 1) := dk_42 (dk_at dksX1_weightOf_0 0 rfl rfl)
theorem dX1_weightOf_1 : decode cX1_weightOf 1 = .ok (.iload_n 1, 1) := dk_27 (dk_at dksX1_weightOf_0 1 rfl rfl)
theorem dX1_weightOf_2 : decode cX1_weightOf 2 = .ok (.invokevirtual 245, 3) := dk_182 0 245 (dk_at dksX1_weightOf_0 2 rfl rfl)
theorem dX1_weightOf_5 : decode cX1_weightOf 5 = .ok (.astore_n 3, 1) := dk_78 (dk_at dksX1_weightOf_0 5 rfl rfl)
theorem dX1_weightOf_6 : decode cX1_weightOf 6 = .ok (.iload_n 2, 1) := dk_28 (dk_at dksX1_weightOf_0 6 rfl rfl)
theorem dX1_weightOf_7 : decode cX1_weightOf 7 = .ok (.tableswitch 46 0 2 #[25, 32, 39], 25) := by decide +kernel
theorem dX1_weightOf_32 : decode cX1_weightOf 32 = .ok (.aload_n 3, 1) := dk_45 (dk_at dksX1_weightOf_2 0 rfl rfl)
theorem dX1_weightOf_33 : decode cX1_weightOf 33 = .ok (.invokevirtual 251, 3) := dk_182 0 251 (dk_at dksX1_weightOf_2 1 rfl rfl)
theorem dX1_weightOf_36 : decode cX1_weightOf 36 = .ok (.goto 25, 3) := dk_167 0 25 (dk_at dksX1_weightOf_2 4 rfl rfl)
theorem dX1_weightOf_39 : decode cX1_weightOf 39 = .ok (.aload_n 3, 1) := dk_45 (dk_at dksX1_weightOf_2 7 rfl rfl)
theorem dX1_weightOf_40 : decode cX1_weightOf 40 = .ok (.invokevirtual 256, 3) := dk_182 1 0 (dk_at dksX1_weightOf_2 8 rfl rfl)
theorem dX1_weightOf_43 : decode cX1_weightOf 43 = .ok (.goto 18, 3) := dk_167 0 18 (dk_at dksX1_weightOf_2 11 rfl rfl)
theorem dX1_weightOf_46 : decode cX1_weightOf 46 = .ok (.aload_n 3, 1) := dk_45 (dk_at dksX1_weightOf_2 14 rfl rfl)
theorem dX1_weightOf_47 : decode cX1_weightOf 47 = .ok (.invokevirtual 259, 3) := dk_182 1 3 (dk_at dksX1_weightOf_2 15 rfl rfl)
theorem dX1_weightOf_50 : decode cX1_weightOf 50 = .ok (.goto 11, 3) := dk_167 0 11 (dk_at dksX1_weightOf_2 18 rfl rfl)
theorem dX1_weightOf_53 : decode cX1_weightOf 53 = .ok (.new 49, 3) := dk_187 0 49 (dk_at dksX1_weightOf_2 21 rfl rfl)
theorem dX1_weightOf_56 : decode cX1_weightOf 56 = .ok (.dup, 1) := dk_89 (dk_at dksX1_weightOf_3 0 rfl rfl)
theorem dX1_weightOf_57 : decode cX1_weightOf 57 = .ok (.invokespecial 51, 3) := dk_183 0 51 (dk_at dksX1_weightOf_3 1 rfl rfl)
theorem dX1_weightOf_60 : decode cX1_weightOf 60 = .ok (.athrow, 1) := dk_191 (dk_at dksX1_weightOf_3 4 rfl rfl)
theorem dX1_weightOf_61 : decode cX1_weightOf 61 = .ok (.ireturn, 1) := dk_172 (dk_at dksX1_weightOf_3 5 rfl rfl)
abbrev cX1_bestWeight : ByteArray := prog_1_method_28_code
def yX1_bestWeight : MethodName := ⟨RX1, "bestWeight", "()I"⟩
def dkwX1_bestWeight_1 : List UInt8 := [172]
abbrev dktX1_bestWeight_1 : List UInt8 := dkwX1_bestWeight_1 ++ []
def dkwX1_bestWeight_0 : List UInt8 := [42, 180, 0, 21, 182, 1, 6, 76, 43, 198, 0, 7, 4, 167, 0, 4, 3, 184, 0, 237, 43, 182, 1, 10]
abbrev dktX1_bestWeight_0 : List UInt8 := dkwX1_bestWeight_0 ++ dktX1_bestWeight_1
theorem dksX1_bestWeight_0 : cX1_bestWeight.data.toList.drop 0 = dktX1_bestWeight_0 := by decide +kernel
theorem dksX1_bestWeight_1 : cX1_bestWeight.data.toList.drop 24 = dktX1_bestWeight_1 := dk_seg dksX1_bestWeight_0 24 rfl rfl
theorem dX1_bestWeight_0 : decode cX1_bestWeight 0 = .ok (.aload_n 0, 1) := dk_42 (dk_at dksX1_bestWeight_0 0 rfl rfl)
theorem dX1_bestWeight_1 : decode cX1_bestWeight 1 = .ok (.getfield 21, 3) := dk_180 0 21 (dk_at dksX1_bestWeight_0 1 rfl rfl)
theorem dX1_bestWeight_4 : decode cX1_bestWeight 4 = .ok (.invokevirtual 262, 3) := dk_182 1 6 (dk_at dksX1_bestWeight_0 4 rfl rfl)
theorem dX1_bestWeight_7 : decode cX1_bestWeight 7 = .ok (.astore_n 1, 1) := dk_76 (dk_at dksX1_bestWeight_0 7 rfl rfl)
theorem dX1_bestWeight_8 : decode cX1_bestWeight 8 = .ok (.aload_n 1, 1) := dk_43 (dk_at dksX1_bestWeight_0 8 rfl rfl)
theorem dX1_bestWeight_9 : decode cX1_bestWeight 9 = .ok (.ifnull 7, 3) := dk_198 0 7 (dk_at dksX1_bestWeight_0 9 rfl rfl)
theorem dX1_bestWeight_12 : decode cX1_bestWeight 12 = .ok (.iconst 1, 1) := dk_4 (dk_at dksX1_bestWeight_0 12 rfl rfl)
theorem dX1_bestWeight_13 : decode cX1_bestWeight 13 = .ok (.goto 4, 3) := dk_167 0 4 (dk_at dksX1_bestWeight_0 13 rfl rfl)
theorem dX1_bestWeight_16 : decode cX1_bestWeight 16 = .ok (.iconst 0, 1) := dk_3 (dk_at dksX1_bestWeight_0 16 rfl rfl)
theorem dX1_bestWeight_17 : decode cX1_bestWeight 17 = .ok (.invokestatic 237, 3) := dk_184 0 237 (dk_at dksX1_bestWeight_0 17 rfl rfl)
theorem dX1_bestWeight_20 : decode cX1_bestWeight 20 = .ok (.aload_n 1, 1) := dk_43 (dk_at dksX1_bestWeight_0 20 rfl rfl)
theorem dX1_bestWeight_21 : decode cX1_bestWeight 21 = .ok (.invokevirtual 266, 3) := dk_182 1 10 (dk_at dksX1_bestWeight_0 21 rfl rfl)
theorem dX1_bestWeight_24 : decode cX1_bestWeight 24 = .ok (.ireturn, 1) := dk_172 (dk_at dksX1_bestWeight_1 0 rfl rfl)
abbrev cX1_shows : ByteArray := prog_1_method_29_code
def yX1_shows : MethodName := ⟨RX1, "shows", "(II)I"⟩
def dkwX1_shows_0 : List UInt8 := [42, 27, 182, 0, 153, 42, 28, 182, 0, 245, 182, 1, 11, 172]
abbrev dktX1_shows_0 : List UInt8 := dkwX1_shows_0 ++ []
theorem dksX1_shows_0 : cX1_shows.data.toList.drop 0 = dktX1_shows_0 := by decide +kernel
theorem dX1_shows_0 : decode cX1_shows 0 = .ok (.aload_n 0, 1) := dk_42 (dk_at dksX1_shows_0 0 rfl rfl)
theorem dX1_shows_1 : decode cX1_shows 1 = .ok (.iload_n 1, 1) := dk_27 (dk_at dksX1_shows_0 1 rfl rfl)
theorem dX1_shows_2 : decode cX1_shows 2 = .ok (.invokevirtual 153, 3) := dk_182 0 153 (dk_at dksX1_shows_0 2 rfl rfl)
theorem dX1_shows_5 : decode cX1_shows 5 = .ok (.aload_n 0, 1) := dk_42 (dk_at dksX1_shows_0 5 rfl rfl)
theorem dX1_shows_6 : decode cX1_shows 6 = .ok (.iload_n 2, 1) := dk_28 (dk_at dksX1_shows_0 6 rfl rfl)
theorem dX1_shows_7 : decode cX1_shows 7 = .ok (.invokevirtual 245, 3) := dk_182 0 245 (dk_at dksX1_shows_0 7 rfl rfl)
theorem dX1_shows_10 : decode cX1_shows 10 = .ok (.invokevirtual 267, 3) := dk_182 1 11 (dk_at dksX1_shows_0 10 rfl rfl)
theorem dX1_shows_13 : decode cX1_shows 13 = .ok (.ireturn, 1) := dk_172 (dk_at dksX1_shows_0 13 rfl rfl)
abbrev cX1_inspect : ByteArray := prog_1_method_30_code
def yX1_inspect : MethodName := ⟨RX1, "inspect", "(II)I"⟩
def dkwX1_inspect_1 : List UInt8 := [183, 0, 160, 182, 0, 145, 172]
abbrev dktX1_inspect_1 : List UInt8 := dkwX1_inspect_1 ++ []
def dkwX1_inspect_0 : List UInt8 := [42, 27, 182, 0, 153, 87, 42, 28, 182, 0, 245, 87, 42, 187, 0, 156, 89, 19, 1, 15, 27, 28]
abbrev dktX1_inspect_0 : List UInt8 := dkwX1_inspect_0 ++ dktX1_inspect_1
theorem dksX1_inspect_0 : cX1_inspect.data.toList.drop 0 = dktX1_inspect_0 := by decide +kernel
theorem dksX1_inspect_1 : cX1_inspect.data.toList.drop 22 = dktX1_inspect_1 := dk_seg dksX1_inspect_0 22 rfl rfl
theorem dX1_inspect_0 : decode cX1_inspect 0 = .ok (.aload_n 0, 1) := dk_42 (dk_at dksX1_inspect_0 0 rfl rfl)
theorem dX1_inspect_1 : decode cX1_inspect 1 = .ok (.iload_n 1, 1) := dk_27 (dk_at dksX1_inspect_0 1 rfl rfl)
theorem dX1_inspect_2 : decode cX1_inspect 2 = .ok (.invokevirtual 153, 3) := dk_182 0 153 (dk_at dksX1_inspect_0 2 rfl rfl)
theorem dX1_inspect_5 : decode cX1_inspect 5 = .ok (.pop, 1) := dk_87 (dk_at dksX1_inspect_0 5 rfl rfl)
theorem dX1_inspect_6 : decode cX1_inspect 6 = .ok (.aload_n 0, 1) := dk_42 (dk_at dksX1_inspect_0 6 rfl rfl)
theorem dX1_inspect_7 : decode cX1_inspect 7 = .ok (.iload_n 2, 1) := dk_28 (dk_at dksX1_inspect_0 7 rfl rfl)
theorem dX1_inspect_8 : decode cX1_inspect 8 = .ok (.invokevirtual 245, 3) := dk_182 0 245 (dk_at dksX1_inspect_0 8 rfl rfl)
theorem dX1_inspect_11 : decode cX1_inspect 11 = .ok (.pop, 1) := dk_87 (dk_at dksX1_inspect_0 11 rfl rfl)
theorem dX1_inspect_12 : decode cX1_inspect 12 = .ok (.aload_n 0, 1) := dk_42 (dk_at dksX1_inspect_0 12 rfl rfl)
theorem dX1_inspect_13 : decode cX1_inspect 13 = .ok (.new 156, 3) := dk_187 0 156 (dk_at dksX1_inspect_0 13 rfl rfl)
theorem dX1_inspect_16 : decode cX1_inspect 16 = .ok (.dup, 1) := dk_89 (dk_at dksX1_inspect_0 16 rfl rfl)
theorem dX1_inspect_17 : decode cX1_inspect 17 = .ok (.ldc_w 271, 3) := dk_19 1 15 (dk_at dksX1_inspect_0 17 rfl rfl)
theorem dX1_inspect_20 : decode cX1_inspect 20 = .ok (.iload_n 1, 1) := dk_27 (dk_at dksX1_inspect_0 20 rfl rfl)
theorem dX1_inspect_21 : decode cX1_inspect 21 = .ok (.iload_n 2, 1) := dk_28 (dk_at dksX1_inspect_0 21 rfl rfl)
theorem dX1_inspect_22 : decode cX1_inspect 22 = .ok (.invokespecial 160, 3) := dk_183 0 160 (dk_at dksX1_inspect_1 0 rfl rfl)
theorem dX1_inspect_25 : decode cX1_inspect 25 = .ok (.invokevirtual 145, 3) := dk_182 0 145 (dk_at dksX1_inspect_1 3 rfl rfl)
theorem dX1_inspect_28 : decode cX1_inspect 28 = .ok (.ireturn, 1) := dk_172 (dk_at dksX1_inspect_1 6 rfl rfl)
abbrev cX1_fine : ByteArray := prog_1_method_31_code
def yX1_fine : MethodName := ⟨RX1, "fine", "(II)I"⟩
def dkwX1_fine_0 : List UInt8 := [42, 27, 182, 0, 153, 42, 28, 182, 0, 245, 182, 1, 17, 172]
abbrev dktX1_fine_0 : List UInt8 := dkwX1_fine_0 ++ []
theorem dksX1_fine_0 : cX1_fine.data.toList.drop 0 = dktX1_fine_0 := by decide +kernel
theorem dX1_fine_0 : decode cX1_fine 0 = .ok (.aload_n 0, 1) := dk_42 (dk_at dksX1_fine_0 0 rfl rfl)
theorem dX1_fine_1 : decode cX1_fine 1 = .ok (.iload_n 1, 1) := dk_27 (dk_at dksX1_fine_0 1 rfl rfl)
theorem dX1_fine_2 : decode cX1_fine 2 = .ok (.invokevirtual 153, 3) := dk_182 0 153 (dk_at dksX1_fine_0 2 rfl rfl)
theorem dX1_fine_5 : decode cX1_fine 5 = .ok (.aload_n 0, 1) := dk_42 (dk_at dksX1_fine_0 5 rfl rfl)
theorem dX1_fine_6 : decode cX1_fine 6 = .ok (.iload_n 2, 1) := dk_28 (dk_at dksX1_fine_0 6 rfl rfl)
theorem dX1_fine_7 : decode cX1_fine 7 = .ok (.invokevirtual 245, 3) := dk_182 0 245 (dk_at dksX1_fine_0 7 rfl rfl)
theorem dX1_fine_10 : decode cX1_fine 10 = .ok (.invokevirtual 273, 3) := dk_182 1 17 (dk_at dksX1_fine_0 10 rfl rfl)
theorem dX1_fine_13 : decode cX1_fine 13 = .ok (.ireturn, 1) := dk_172 (dk_at dksX1_fine_0 13 rfl rfl)
abbrev cX1_mend : ByteArray := prog_1_method_32_code
def yX1_mend : MethodName := ⟨RX1, "mend", "(I)I"⟩
def dkwX1_mend_0 : List UInt8 := [42, 27, 182, 0, 153, 87, 42, 187, 0, 156, 89, 19, 1, 20, 27, 183, 1, 22, 182, 0, 145, 172]
abbrev dktX1_mend_0 : List UInt8 := dkwX1_mend_0 ++ []
theorem dksX1_mend_0 : cX1_mend.data.toList.drop 0 = dktX1_mend_0 := by decide +kernel
theorem dX1_mend_0 : decode cX1_mend 0 = .ok (.aload_n 0, 1) := dk_42 (dk_at dksX1_mend_0 0 rfl rfl)
theorem dX1_mend_1 : decode cX1_mend 1 = .ok (.iload_n 1, 1) := dk_27 (dk_at dksX1_mend_0 1 rfl rfl)
theorem dX1_mend_2 : decode cX1_mend 2 = .ok (.invokevirtual 153, 3) := dk_182 0 153 (dk_at dksX1_mend_0 2 rfl rfl)
theorem dX1_mend_5 : decode cX1_mend 5 = .ok (.pop, 1) := dk_87 (dk_at dksX1_mend_0 5 rfl rfl)
theorem dX1_mend_6 : decode cX1_mend 6 = .ok (.aload_n 0, 1) := dk_42 (dk_at dksX1_mend_0 6 rfl rfl)
theorem dX1_mend_7 : decode cX1_mend 7 = .ok (.new 156, 3) := dk_187 0 156 (dk_at dksX1_mend_0 7 rfl rfl)
theorem dX1_mend_10 : decode cX1_mend 10 = .ok (.dup, 1) := dk_89 (dk_at dksX1_mend_0 10 rfl rfl)
theorem dX1_mend_11 : decode cX1_mend 11 = .ok (.ldc_w 276, 3) := dk_19 1 20 (dk_at dksX1_mend_0 11 rfl rfl)
theorem dX1_mend_14 : decode cX1_mend 14 = .ok (.iload_n 1, 1) := dk_27 (dk_at dksX1_mend_0 14 rfl rfl)
theorem dX1_mend_15 : decode cX1_mend 15 = .ok (.invokespecial 278, 3) := dk_183 1 22 (dk_at dksX1_mend_0 15 rfl rfl)
theorem dX1_mend_18 : decode cX1_mend 18 = .ok (.invokevirtual 145, 3) := dk_182 0 145 (dk_at dksX1_mend_0 18 rfl rfl)
theorem dX1_mend_21 : decode cX1_mend 21 = .ok (.ireturn, 1) := dk_172 (dk_at dksX1_mend_0 21 rfl rfl)
abbrev cX1_shave : ByteArray := prog_1_method_33_code
def yX1_shave : MethodName := ⟨RX1, "shave", "(II)I"⟩
def dkwX1_shave_1 : List UInt8 := [27, 28, 183, 0, 160, 182, 0, 145, 172]
abbrev dktX1_shave_1 : List UInt8 := dkwX1_shave_1 ++ []
def dkwX1_shave_0 : List UInt8 := [42, 27, 182, 0, 153, 87, 28, 4, 16, 9, 184, 0, 107, 184, 0, 137, 42, 187, 0, 156, 89, 19, 1, 25]
abbrev dktX1_shave_0 : List UInt8 := dkwX1_shave_0 ++ dktX1_shave_1
theorem dksX1_shave_0 : cX1_shave.data.toList.drop 0 = dktX1_shave_0 := by decide +kernel
theorem dksX1_shave_1 : cX1_shave.data.toList.drop 24 = dktX1_shave_1 := dk_seg dksX1_shave_0 24 rfl rfl
theorem dX1_shave_0 : decode cX1_shave 0 = .ok (.aload_n 0, 1) := dk_42 (dk_at dksX1_shave_0 0 rfl rfl)
theorem dX1_shave_1 : decode cX1_shave 1 = .ok (.iload_n 1, 1) := dk_27 (dk_at dksX1_shave_0 1 rfl rfl)
theorem dX1_shave_2 : decode cX1_shave 2 = .ok (.invokevirtual 153, 3) := dk_182 0 153 (dk_at dksX1_shave_0 2 rfl rfl)
theorem dX1_shave_5 : decode cX1_shave 5 = .ok (.pop, 1) := dk_87 (dk_at dksX1_shave_0 5 rfl rfl)
theorem dX1_shave_6 : decode cX1_shave 6 = .ok (.iload_n 2, 1) := dk_28 (dk_at dksX1_shave_0 6 rfl rfl)
theorem dX1_shave_7 : decode cX1_shave 7 = .ok (.iconst 1, 1) := dk_4 (dk_at dksX1_shave_0 7 rfl rfl)
theorem dX1_shave_8 : decode cX1_shave 8 = .ok (.bipush 9, 2) := dk_16 9 (dk_at dksX1_shave_0 8 rfl rfl)
theorem dX1_shave_10 : decode cX1_shave 10 = .ok (.invokestatic 107, 3) := dk_184 0 107 (dk_at dksX1_shave_0 10 rfl rfl)
theorem dX1_shave_13 : decode cX1_shave 13 = .ok (.invokestatic 137, 3) := dk_184 0 137 (dk_at dksX1_shave_0 13 rfl rfl)
theorem dX1_shave_16 : decode cX1_shave 16 = .ok (.aload_n 0, 1) := dk_42 (dk_at dksX1_shave_0 16 rfl rfl)
theorem dX1_shave_17 : decode cX1_shave 17 = .ok (.new 156, 3) := dk_187 0 156 (dk_at dksX1_shave_0 17 rfl rfl)
theorem dX1_shave_20 : decode cX1_shave 20 = .ok (.dup, 1) := dk_89 (dk_at dksX1_shave_0 20 rfl rfl)
theorem dX1_shave_21 : decode cX1_shave 21 = .ok (.ldc_w 281, 3) := dk_19 1 25 (dk_at dksX1_shave_0 21 rfl rfl)
theorem dX1_shave_24 : decode cX1_shave 24 = .ok (.iload_n 1, 1) := dk_27 (dk_at dksX1_shave_1 0 rfl rfl)
theorem dX1_shave_25 : decode cX1_shave 25 = .ok (.iload_n 2, 1) := dk_28 (dk_at dksX1_shave_1 1 rfl rfl)
theorem dX1_shave_26 : decode cX1_shave 26 = .ok (.invokespecial 160, 3) := dk_183 0 160 (dk_at dksX1_shave_1 2 rfl rfl)
theorem dX1_shave_29 : decode cX1_shave 29 = .ok (.invokevirtual 145, 3) := dk_182 0 145 (dk_at dksX1_shave_1 5 rfl rfl)
theorem dX1_shave_32 : decode cX1_shave 32 = .ok (.ireturn, 1) := dk_172 (dk_at dksX1_shave_1 8 rfl rfl)
abbrev cX1_pay : ByteArray := prog_1_method_34_code
def yX1_pay : MethodName := ⟨RX1, "pay", "(II)I"⟩
def dkwX1_pay_1 : List UInt8 := [27, 28, 183, 0, 160, 182, 0, 145, 172]
abbrev dktX1_pay_1 : List UInt8 := dkwX1_pay_1 ++ []
def dkwX1_pay_0 : List UInt8 := [42, 27, 182, 0, 153, 87, 28, 4, 16, 99, 184, 0, 107, 184, 0, 137, 42, 187, 0, 156, 89, 19, 1, 26]
abbrev dktX1_pay_0 : List UInt8 := dkwX1_pay_0 ++ dktX1_pay_1
theorem dksX1_pay_0 : cX1_pay.data.toList.drop 0 = dktX1_pay_0 := by decide +kernel
theorem dksX1_pay_1 : cX1_pay.data.toList.drop 24 = dktX1_pay_1 := dk_seg dksX1_pay_0 24 rfl rfl
theorem dX1_pay_0 : decode cX1_pay 0 = .ok (.aload_n 0, 1) := dk_42 (dk_at dksX1_pay_0 0 rfl rfl)
theorem dX1_pay_1 : decode cX1_pay 1 = .ok (.iload_n 1, 1) := dk_27 (dk_at dksX1_pay_0 1 rfl rfl)
theorem dX1_pay_2 : decode cX1_pay 2 = .ok (.invokevirtual 153, 3) := dk_182 0 153 (dk_at dksX1_pay_0 2 rfl rfl)
theorem dX1_pay_5 : decode cX1_pay 5 = .ok (.pop, 1) := dk_87 (dk_at dksX1_pay_0 5 rfl rfl)
theorem dX1_pay_6 : decode cX1_pay 6 = .ok (.iload_n 2, 1) := dk_28 (dk_at dksX1_pay_0 6 rfl rfl)
theorem dX1_pay_7 : decode cX1_pay 7 = .ok (.iconst 1, 1) := dk_4 (dk_at dksX1_pay_0 7 rfl rfl)
theorem dX1_pay_8 : decode cX1_pay 8 = .ok (.bipush 99, 2) := dk_16 99 (dk_at dksX1_pay_0 8 rfl rfl)
theorem dX1_pay_10 : decode cX1_pay 10 = .ok (.invokestatic 107, 3) := dk_184 0 107 (dk_at dksX1_pay_0 10 rfl rfl)
theorem dX1_pay_13 : decode cX1_pay 13 = .ok (.invokestatic 137, 3) := dk_184 0 137 (dk_at dksX1_pay_0 13 rfl rfl)
theorem dX1_pay_16 : decode cX1_pay 16 = .ok (.aload_n 0, 1) := dk_42 (dk_at dksX1_pay_0 16 rfl rfl)
theorem dX1_pay_17 : decode cX1_pay 17 = .ok (.new 156, 3) := dk_187 0 156 (dk_at dksX1_pay_0 17 rfl rfl)
theorem dX1_pay_20 : decode cX1_pay 20 = .ok (.dup, 1) := dk_89 (dk_at dksX1_pay_0 20 rfl rfl)
theorem dX1_pay_21 : decode cX1_pay 21 = .ok (.ldc_w 282, 3) := dk_19 1 26 (dk_at dksX1_pay_0 21 rfl rfl)
theorem dX1_pay_24 : decode cX1_pay 24 = .ok (.iload_n 1, 1) := dk_27 (dk_at dksX1_pay_1 0 rfl rfl)
theorem dX1_pay_25 : decode cX1_pay 25 = .ok (.iload_n 2, 1) := dk_28 (dk_at dksX1_pay_1 1 rfl rfl)
theorem dX1_pay_26 : decode cX1_pay 26 = .ok (.invokespecial 160, 3) := dk_183 0 160 (dk_at dksX1_pay_1 2 rfl rfl)
theorem dX1_pay_29 : decode cX1_pay 29 = .ok (.invokevirtual 145, 3) := dk_182 0 145 (dk_at dksX1_pay_1 5 rfl rfl)
theorem dX1_pay_32 : decode cX1_pay 32 = .ok (.ireturn, 1) := dk_172 (dk_at dksX1_pay_1 8 rfl rfl)
abbrev cX1_pass : ByteArray := prog_1_method_35_code
def yX1_pass : MethodName := ⟨RX1, "pass", "(I)I"⟩
def dkwX1_pass_1 : List UInt8 := [182, 0, 145, 172]
abbrev dktX1_pass_1 : List UInt8 := dkwX1_pass_1 ++ []
def dkwX1_pass_0 : List UInt8 := [27, 4, 16, 40, 184, 0, 107, 184, 0, 137, 42, 187, 0, 156, 89, 19, 1, 28, 27, 183, 1, 22]
abbrev dktX1_pass_0 : List UInt8 := dkwX1_pass_0 ++ dktX1_pass_1
theorem dksX1_pass_0 : cX1_pass.data.toList.drop 0 = dktX1_pass_0 := by decide +kernel
theorem dksX1_pass_1 : cX1_pass.data.toList.drop 22 = dktX1_pass_1 := dk_seg dksX1_pass_0 22 rfl rfl
theorem dX1_pass_0 : decode cX1_pass 0 = .ok (.iload_n 1, 1) := dk_27 (dk_at dksX1_pass_0 0 rfl rfl)
theorem dX1_pass_1 : decode cX1_pass 1 = .ok (.iconst 1, 1) := dk_4 (dk_at dksX1_pass_0 1 rfl rfl)
theorem dX1_pass_2 : decode cX1_pass 2 = .ok (.bipush 40, 2) := dk_16 40 (dk_at dksX1_pass_0 2 rfl rfl)
theorem dX1_pass_4 : decode cX1_pass 4 = .ok (.invokestatic 107, 3) := dk_184 0 107 (dk_at dksX1_pass_0 4 rfl rfl)
theorem dX1_pass_7 : decode cX1_pass 7 = .ok (.invokestatic 137, 3) := dk_184 0 137 (dk_at dksX1_pass_0 7 rfl rfl)
theorem dX1_pass_10 : decode cX1_pass 10 = .ok (.aload_n 0, 1) := dk_42 (dk_at dksX1_pass_0 10 rfl rfl)
theorem dX1_pass_11 : decode cX1_pass 11 = .ok (.new 156, 3) := dk_187 0 156 (dk_at dksX1_pass_0 11 rfl rfl)
theorem dX1_pass_14 : decode cX1_pass 14 = .ok (.dup, 1) := dk_89 (dk_at dksX1_pass_0 14 rfl rfl)
theorem dX1_pass_15 : decode cX1_pass 15 = .ok (.ldc_w 284, 3) := dk_19 1 28 (dk_at dksX1_pass_0 15 rfl rfl)
theorem dX1_pass_18 : decode cX1_pass 18 = .ok (.iload_n 1, 1) := dk_27 (dk_at dksX1_pass_0 18 rfl rfl)
theorem dX1_pass_19 : decode cX1_pass 19 = .ok (.invokespecial 278, 3) := dk_183 1 22 (dk_at dksX1_pass_0 19 rfl rfl)
theorem dX1_pass_22 : decode cX1_pass 22 = .ok (.invokevirtual 145, 3) := dk_182 0 145 (dk_at dksX1_pass_1 0 rfl rfl)
theorem dX1_pass_25 : decode cX1_pass 25 = .ok (.ireturn, 1) := dk_172 (dk_at dksX1_pass_1 3 rfl rfl)
abbrev cX1_falseIn : ByteArray := prog_1_method_36_code
def yX1_falseIn : MethodName := ⟨RX1, "falseIn", "(I)I"⟩
def dkwX1_falseIn_1 : List UInt8 := [167, 0, 4, 3, 184, 0, 237, 28, 172]
abbrev dktX1_falseIn_1 : List UInt8 := dkwX1_falseIn_1 ++ []
def dkwX1_falseIn_0 : List UInt8 := [42, 27, 182, 0, 153, 87, 42, 180, 0, 21, 182, 0, 73, 27, 182, 1, 30, 61, 28, 2, 159, 0, 7, 4]
abbrev dktX1_falseIn_0 : List UInt8 := dkwX1_falseIn_0 ++ dktX1_falseIn_1
theorem dksX1_falseIn_0 : cX1_falseIn.data.toList.drop 0 = dktX1_falseIn_0 := by decide +kernel
theorem dksX1_falseIn_1 : cX1_falseIn.data.toList.drop 24 = dktX1_falseIn_1 := dk_seg dksX1_falseIn_0 24 rfl rfl
theorem dX1_falseIn_0 : decode cX1_falseIn 0 = .ok (.aload_n 0, 1) := dk_42 (dk_at dksX1_falseIn_0 0 rfl rfl)
theorem dX1_falseIn_1 : decode cX1_falseIn 1 = .ok (.iload_n 1, 1) := dk_27 (dk_at dksX1_falseIn_0 1 rfl rfl)
theorem dX1_falseIn_2 : decode cX1_falseIn 2 = .ok (.invokevirtual 153, 3) := dk_182 0 153 (dk_at dksX1_falseIn_0 2 rfl rfl)
theorem dX1_falseIn_5 : decode cX1_falseIn 5 = .ok (.pop, 1) := dk_87 (dk_at dksX1_falseIn_0 5 rfl rfl)
theorem dX1_falseIn_6 : decode cX1_falseIn 6 = .ok (.aload_n 0, 1) := dk_42 (dk_at dksX1_falseIn_0 6 rfl rfl)
theorem dX1_falseIn_7 : decode cX1_falseIn 7 = .ok (.getfield 21, 3) := dk_180 0 21 (dk_at dksX1_falseIn_0 7 rfl rfl)
theorem dX1_falseIn_10 : decode cX1_falseIn 10 = .ok (.invokevirtual 73, 3) := dk_182 0 73 (dk_at dksX1_falseIn_0 10 rfl rfl)
theorem dX1_falseIn_13 : decode cX1_falseIn 13 = .ok (.iload_n 1, 1) := dk_27 (dk_at dksX1_falseIn_0 13 rfl rfl)
theorem dX1_falseIn_14 : decode cX1_falseIn 14 = .ok (.invokevirtual 286, 3) := dk_182 1 30 (dk_at dksX1_falseIn_0 14 rfl rfl)
theorem dX1_falseIn_17 : decode cX1_falseIn 17 = .ok (.istore_n 2, 1) := dk_61 (dk_at dksX1_falseIn_0 17 rfl rfl)
theorem dX1_falseIn_18 : decode cX1_falseIn 18 = .ok (.iload_n 2, 1) := dk_28 (dk_at dksX1_falseIn_0 18 rfl rfl)
theorem dX1_falseIn_19 : decode cX1_falseIn 19 = .ok (.iconst (-1), 1) := dk_2 (dk_at dksX1_falseIn_0 19 rfl rfl)
theorem dX1_falseIn_20 : decode cX1_falseIn 20 = .ok (.if_icmp .eq 7, 3) := dk_159 0 7 (dk_at dksX1_falseIn_0 20 rfl rfl)
theorem dX1_falseIn_23 : decode cX1_falseIn 23 = .ok (.iconst 1, 1) := dk_4 (dk_at dksX1_falseIn_0 23 rfl rfl)
theorem dX1_falseIn_24 : decode cX1_falseIn 24 = .ok (.goto 4, 3) := dk_167 0 4 (dk_at dksX1_falseIn_1 0 rfl rfl)
theorem dX1_falseIn_27 : decode cX1_falseIn 27 = .ok (.iconst 0, 1) := dk_3 (dk_at dksX1_falseIn_1 3 rfl rfl)
theorem dX1_falseIn_28 : decode cX1_falseIn 28 = .ok (.invokestatic 237, 3) := dk_184 0 237 (dk_at dksX1_falseIn_1 4 rfl rfl)
theorem dX1_falseIn_31 : decode cX1_falseIn 31 = .ok (.iload_n 2, 1) := dk_28 (dk_at dksX1_falseIn_1 7 rfl rfl)
theorem dX1_falseIn_32 : decode cX1_falseIn 32 = .ok (.ireturn, 1) := dk_172 (dk_at dksX1_falseIn_1 8 rfl rfl)
abbrev cX1_loss : ByteArray := prog_1_method_37_code
def yX1_loss : MethodName := ⟨RX1, "loss", "(I)I"⟩
def dkwX1_loss_0 : List UInt8 := [42, 27, 182, 0, 153, 182, 1, 33, 172]
abbrev dktX1_loss_0 : List UInt8 := dkwX1_loss_0 ++ []
theorem dksX1_loss_0 : cX1_loss.data.toList.drop 0 = dktX1_loss_0 := by decide +kernel
theorem dX1_loss_0 : decode cX1_loss 0 = .ok (.aload_n 0, 1) := dk_42 (dk_at dksX1_loss_0 0 rfl rfl)
theorem dX1_loss_1 : decode cX1_loss 1 = .ok (.iload_n 1, 1) := dk_27 (dk_at dksX1_loss_0 1 rfl rfl)
theorem dX1_loss_2 : decode cX1_loss 2 = .ok (.invokevirtual 153, 3) := dk_182 0 153 (dk_at dksX1_loss_0 2 rfl rfl)
theorem dX1_loss_5 : decode cX1_loss 5 = .ok (.invokevirtual 289, 3) := dk_182 1 33 (dk_at dksX1_loss_0 5 rfl rfl)
theorem dX1_loss_8 : decode cX1_loss 8 = .ok (.ireturn, 1) := dk_172 (dk_at dksX1_loss_0 8 rfl rfl)
abbrev cX1_lossAgain : ByteArray := prog_1_method_38_code
def yX1_lossAgain : MethodName := ⟨RX1, "lossAgain", "(I)I"⟩
def dkwX1_lossAgain_0 : List UInt8 := [42, 27, 182, 0, 153, 182, 1, 36, 172]
abbrev dktX1_lossAgain_0 : List UInt8 := dkwX1_lossAgain_0 ++ []
theorem dksX1_lossAgain_0 : cX1_lossAgain.data.toList.drop 0 = dktX1_lossAgain_0 := by decide +kernel
theorem dX1_lossAgain_0 : decode cX1_lossAgain 0 = .ok (.aload_n 0, 1) := dk_42 (dk_at dksX1_lossAgain_0 0 rfl rfl)
theorem dX1_lossAgain_1 : decode cX1_lossAgain 1 = .ok (.iload_n 1, 1) := dk_27 (dk_at dksX1_lossAgain_0 1 rfl rfl)
theorem dX1_lossAgain_2 : decode cX1_lossAgain 2 = .ok (.invokevirtual 153, 3) := dk_182 0 153 (dk_at dksX1_lossAgain_0 2 rfl rfl)
theorem dX1_lossAgain_5 : decode cX1_lossAgain 5 = .ok (.invokevirtual 292, 3) := dk_182 1 36 (dk_at dksX1_lossAgain_0 5 rfl rfl)
theorem dX1_lossAgain_8 : decode cX1_lossAgain 8 = .ok (.ireturn, 1) := dk_172 (dk_at dksX1_lossAgain_0 8 rfl rfl)
abbrev cX1_type : ByteArray := prog_1_method_39_code
def yX1_type : MethodName := ⟨RX1, "type", "(C)I"⟩
def dkwX1_type_1 : List UInt8 := [27, 182, 1, 45, 87, 42, 180, 0, 35, 182, 1, 39, 172]
abbrev dktX1_type_1 : List UInt8 := dkwX1_type_1 ++ []
def dkwX1_type_0 : List UInt8 := [42, 180, 0, 35, 182, 1, 39, 16, 60, 162, 0, 7, 4, 167, 0, 4, 3, 184, 1, 42, 42, 180, 0, 35]
abbrev dktX1_type_0 : List UInt8 := dkwX1_type_0 ++ dktX1_type_1
theorem dksX1_type_0 : cX1_type.data.toList.drop 0 = dktX1_type_0 := by decide +kernel
theorem dksX1_type_1 : cX1_type.data.toList.drop 24 = dktX1_type_1 := dk_seg dksX1_type_0 24 rfl rfl
theorem dX1_type_0 : decode cX1_type 0 = .ok (.aload_n 0, 1) := dk_42 (dk_at dksX1_type_0 0 rfl rfl)
theorem dX1_type_1 : decode cX1_type 1 = .ok (.getfield 35, 3) := dk_180 0 35 (dk_at dksX1_type_0 1 rfl rfl)
theorem dX1_type_4 : decode cX1_type 4 = .ok (.invokevirtual 295, 3) := dk_182 1 39 (dk_at dksX1_type_0 4 rfl rfl)
theorem dX1_type_7 : decode cX1_type 7 = .ok (.bipush 60, 2) := dk_16 60 (dk_at dksX1_type_0 7 rfl rfl)
theorem dX1_type_9 : decode cX1_type 9 = .ok (.if_icmp .ge 7, 3) := dk_162 0 7 (dk_at dksX1_type_0 9 rfl rfl)
theorem dX1_type_12 : decode cX1_type 12 = .ok (.iconst 1, 1) := dk_4 (dk_at dksX1_type_0 12 rfl rfl)
theorem dX1_type_13 : decode cX1_type 13 = .ok (.goto 4, 3) := dk_167 0 4 (dk_at dksX1_type_0 13 rfl rfl)
theorem dX1_type_16 : decode cX1_type 16 = .ok (.iconst 0, 1) := dk_3 (dk_at dksX1_type_0 16 rfl rfl)
theorem dX1_type_17 : decode cX1_type 17 = .ok (.invokestatic 298, 3) := dk_184 1 42 (dk_at dksX1_type_0 17 rfl rfl)
theorem dX1_type_20 : decode cX1_type 20 = .ok (.aload_n 0, 1) := dk_42 (dk_at dksX1_type_0 20 rfl rfl)
theorem dX1_type_21 : decode cX1_type 21 = .ok (.getfield 35, 3) := dk_180 0 35 (dk_at dksX1_type_0 21 rfl rfl)
theorem dX1_type_24 : decode cX1_type 24 = .ok (.iload_n 1, 1) := dk_27 (dk_at dksX1_type_1 0 rfl rfl)
theorem dX1_type_25 : decode cX1_type 25 = .ok (.invokevirtual 301, 3) := dk_182 1 45 (dk_at dksX1_type_1 1 rfl rfl)
theorem dX1_type_28 : decode cX1_type 28 = .ok (.pop, 1) := dk_87 (dk_at dksX1_type_1 4 rfl rfl)
theorem dX1_type_29 : decode cX1_type 29 = .ok (.aload_n 0, 1) := dk_42 (dk_at dksX1_type_1 5 rfl rfl)
theorem dX1_type_30 : decode cX1_type 30 = .ok (.getfield 35, 3) := dk_180 0 35 (dk_at dksX1_type_1 6 rfl rfl)
theorem dX1_type_33 : decode cX1_type 33 = .ok (.invokevirtual 295, 3) := dk_182 1 39 (dk_at dksX1_type_1 9 rfl rfl)
theorem dX1_type_36 : decode cX1_type 36 = .ok (.ireturn, 1) := dk_172 (dk_at dksX1_type_1 12 rfl rfl)
abbrev cX1_requireState : ByteArray := prog_1_method_8_code
def yX1_requireState : MethodName := ⟨RX1, "requireState", "(Z)V"⟩
def dkwX1_requireState_0 : List UInt8 := [26, 154, 0, 11, 187, 0, 55, 89, 183, 0, 57, 191, 177]
abbrev dktX1_requireState_0 : List UInt8 := dkwX1_requireState_0 ++ []
theorem dksX1_requireState_0 : cX1_requireState.data.toList.drop 0 = dktX1_requireState_0 := by decide +kernel
theorem dX1_requireState_0 : decode cX1_requireState 0 = .ok (.iload_n 0, 1) := dk_26 (dk_at dksX1_requireState_0 0 rfl rfl)
theorem dX1_requireState_1 : decode cX1_requireState 1 = .ok (.ifCond .ne 11, 3) := dk_154 0 11 (dk_at dksX1_requireState_0 1 rfl rfl)
theorem dX1_requireState_4 : decode cX1_requireState 4 = .ok (.new 55, 3) := dk_187 0 55 (dk_at dksX1_requireState_0 4 rfl rfl)
theorem dX1_requireState_7 : decode cX1_requireState 7 = .ok (.dup, 1) := dk_89 (dk_at dksX1_requireState_0 7 rfl rfl)
theorem dX1_requireState_8 : decode cX1_requireState 8 = .ok (.invokespecial 57, 3) := dk_183 0 57 (dk_at dksX1_requireState_0 8 rfl rfl)
theorem dX1_requireState_11 : decode cX1_requireState 11 = .ok (.athrow, 1) := dk_191 (dk_at dksX1_requireState_0 11 rfl rfl)
theorem dX1_requireState_12 : decode cX1_requireState 12 = .ok (.return_, 1) := dk_177 (dk_at dksX1_requireState_0 12 rfl rfl)
abbrev cX1_read : ByteArray := prog_1_method_42_code
def yX1_read : MethodName := ⟨RX1, "read", "()I"⟩
def dkwX1_read_0 : List UInt8 := [42, 182, 1, 70, 172, 76, 42, 43, 182, 0, 95, 191]
abbrev dktX1_read_0 : List UInt8 := dkwX1_read_0 ++ []
theorem dksX1_read_0 : cX1_read.data.toList.drop 0 = dktX1_read_0 := by decide +kernel
theorem dX1_read_0 : decode cX1_read 0 = .ok (.aload_n 0, 1) := dk_42 (dk_at dksX1_read_0 0 rfl rfl)
theorem dX1_read_1 : decode cX1_read 1 = .ok (.invokevirtual 326, 3) := dk_182 1 70 (dk_at dksX1_read_0 1 rfl rfl)
theorem dX1_read_4 : decode cX1_read 4 = .ok (.ireturn, 1) := dk_172 (dk_at dksX1_read_0 4 rfl rfl)
theorem dX1_read_5 : decode cX1_read 5 = .ok (.astore_n 1, 1) := dk_76 (dk_at dksX1_read_0 5 rfl rfl)
theorem dX1_read_6 : decode cX1_read 6 = .ok (.aload_n 0, 1) := dk_42 (dk_at dksX1_read_0 6 rfl rfl)
theorem dX1_read_7 : decode cX1_read 7 = .ok (.aload_n 1, 1) := dk_43 (dk_at dksX1_read_0 7 rfl rfl)
theorem dX1_read_8 : decode cX1_read 8 = .ok (.invokevirtual 95, 3) := dk_182 0 95 (dk_at dksX1_read_0 8 rfl rfl)
theorem dX1_read_11 : decode cX1_read 11 = .ok (.athrow, 1) := dk_191 (dk_at dksX1_read_0 11 rfl rfl)
abbrev cX1_carriedOut : ByteArray := prog_1_method_41_code
def yX1_carriedOut : MethodName := ⟨RX1, "carriedOut", "()I"⟩
def dkwX1_carriedOut_2 : List UInt8 := [191]
abbrev dktX1_carriedOut_2 : List UInt8 := dkwX1_carriedOut_2 ++ []
def dkwX1_carriedOut_1 : List UInt8 := [182, 0, 91, 61, 42, 180, 0, 35, 3, 182, 1, 67, 28, 172, 78, 42, 180, 0, 35, 3, 182, 1, 67, 45]
abbrev dktX1_carriedOut_1 : List UInt8 := dkwX1_carriedOut_1 ++ dktX1_carriedOut_2
def dkwX1_carriedOut_0 : List UInt8 := [187, 1, 54, 89, 42, 183, 1, 56, 182, 1, 59, 76, 42, 187, 1, 62, 89, 42, 43, 183, 1, 64]
abbrev dktX1_carriedOut_0 : List UInt8 := dkwX1_carriedOut_0 ++ dktX1_carriedOut_1
theorem dksX1_carriedOut_0 : cX1_carriedOut.data.toList.drop 0 = dktX1_carriedOut_0 := by decide +kernel
theorem dksX1_carriedOut_1 : cX1_carriedOut.data.toList.drop 22 = dktX1_carriedOut_1 := dk_seg dksX1_carriedOut_0 22 rfl rfl
theorem dksX1_carriedOut_2 : cX1_carriedOut.data.toList.drop 46 = dktX1_carriedOut_2 := dk_seg dksX1_carriedOut_1 24 rfl rfl
theorem dX1_carriedOut_0 : decode cX1_carriedOut 0 = .ok (.new 310, 3) := dk_187 1 54 (dk_at dksX1_carriedOut_0 0 rfl rfl)
theorem dX1_carriedOut_3 : decode cX1_carriedOut 3 = .ok (.dup, 1) := dk_89 (dk_at dksX1_carriedOut_0 3 rfl rfl)
theorem dX1_carriedOut_4 : decode cX1_carriedOut 4 = .ok (.aload_n 0, 1) := dk_42 (dk_at dksX1_carriedOut_0 4 rfl rfl)
theorem dX1_carriedOut_5 : decode cX1_carriedOut 5 = .ok (.invokespecial 312, 3) := dk_183 1 56 (dk_at dksX1_carriedOut_0 5 rfl rfl)
theorem dX1_carriedOut_8 : decode cX1_carriedOut 8 = .ok (.invokevirtual 315, 3) := dk_182 1 59 (dk_at dksX1_carriedOut_0 8 rfl rfl)
theorem dX1_carriedOut_11 : decode cX1_carriedOut 11 = .ok (.astore_n 1, 1) := dk_76 (dk_at dksX1_carriedOut_0 11 rfl rfl)
theorem dX1_carriedOut_12 : decode cX1_carriedOut 12 = .ok (.aload_n 0, 1) := dk_42 (dk_at dksX1_carriedOut_0 12 rfl rfl)
theorem dX1_carriedOut_13 : decode cX1_carriedOut 13 = .ok (.new 318, 3) := dk_187 1 62 (dk_at dksX1_carriedOut_0 13 rfl rfl)
theorem dX1_carriedOut_16 : decode cX1_carriedOut 16 = .ok (.dup, 1) := dk_89 (dk_at dksX1_carriedOut_0 16 rfl rfl)
theorem dX1_carriedOut_17 : decode cX1_carriedOut 17 = .ok (.aload_n 0, 1) := dk_42 (dk_at dksX1_carriedOut_0 17 rfl rfl)
theorem dX1_carriedOut_18 : decode cX1_carriedOut 18 = .ok (.aload_n 1, 1) := dk_43 (dk_at dksX1_carriedOut_0 18 rfl rfl)
theorem dX1_carriedOut_19 : decode cX1_carriedOut 19 = .ok (.invokespecial 320, 3) := dk_183 1 64 (dk_at dksX1_carriedOut_0 19 rfl rfl)
theorem dX1_carriedOut_22 : decode cX1_carriedOut 22 = .ok (.invokevirtual 91, 3) := dk_182 0 91 (dk_at dksX1_carriedOut_1 0 rfl rfl)
theorem dX1_carriedOut_25 : decode cX1_carriedOut 25 = .ok (.istore_n 2, 1) := dk_61 (dk_at dksX1_carriedOut_1 3 rfl rfl)
theorem dX1_carriedOut_26 : decode cX1_carriedOut 26 = .ok (.aload_n 0, 1) := dk_42 (dk_at dksX1_carriedOut_1 4 rfl rfl)
theorem dX1_carriedOut_27 : decode cX1_carriedOut 27 = .ok (.getfield 35, 3) := dk_180 0 35 (dk_at dksX1_carriedOut_1 5 rfl rfl)
theorem dX1_carriedOut_30 : decode cX1_carriedOut 30 = .ok (.iconst 0, 1) := dk_3 (dk_at dksX1_carriedOut_1 8 rfl rfl)
theorem dX1_carriedOut_31 : decode cX1_carriedOut 31 = .ok (.invokevirtual 323, 3) := dk_182 1 67 (dk_at dksX1_carriedOut_1 9 rfl rfl)
theorem dX1_carriedOut_34 : decode cX1_carriedOut 34 = .ok (.iload_n 2, 1) := dk_28 (dk_at dksX1_carriedOut_1 12 rfl rfl)
theorem dX1_carriedOut_35 : decode cX1_carriedOut 35 = .ok (.ireturn, 1) := dk_172 (dk_at dksX1_carriedOut_1 13 rfl rfl)
theorem dX1_carriedOut_36 : decode cX1_carriedOut 36 = .ok (.astore_n 3, 1) := dk_78 (dk_at dksX1_carriedOut_1 14 rfl rfl)
theorem dX1_carriedOut_37 : decode cX1_carriedOut 37 = .ok (.aload_n 0, 1) := dk_42 (dk_at dksX1_carriedOut_1 15 rfl rfl)
theorem dX1_carriedOut_38 : decode cX1_carriedOut 38 = .ok (.getfield 35, 3) := dk_180 0 35 (dk_at dksX1_carriedOut_1 16 rfl rfl)
theorem dX1_carriedOut_41 : decode cX1_carriedOut 41 = .ok (.iconst 0, 1) := dk_3 (dk_at dksX1_carriedOut_1 19 rfl rfl)
theorem dX1_carriedOut_42 : decode cX1_carriedOut 42 = .ok (.invokevirtual 323, 3) := dk_182 1 67 (dk_at dksX1_carriedOut_1 20 rfl rfl)
theorem dX1_carriedOut_45 : decode cX1_carriedOut 45 = .ok (.aload_n 3, 1) := dk_45 (dk_at dksX1_carriedOut_1 23 rfl rfl)
theorem dX1_carriedOut_46 : decode cX1_carriedOut 46 = .ok (.athrow, 1) := dk_191 (dk_at dksX1_carriedOut_2 0 rfl rfl)
abbrev cX1_errorPosition : ByteArray := prog_1_method_43_code
def yX1_errorPosition : MethodName := ⟨RX1, "errorPosition", "()I"⟩
def dkwX1_errorPosition_0 : List UInt8 := [42, 180, 0, 39, 2, 159, 0, 7, 4, 167, 0, 4, 3, 184, 0, 237, 42, 180, 0, 39, 172]
abbrev dktX1_errorPosition_0 : List UInt8 := dkwX1_errorPosition_0 ++ []
theorem dksX1_errorPosition_0 : cX1_errorPosition.data.toList.drop 0 = dktX1_errorPosition_0 := by decide +kernel
theorem dX1_errorPosition_0 : decode cX1_errorPosition 0 = .ok (.aload_n 0, 1) := dk_42 (dk_at dksX1_errorPosition_0 0 rfl rfl)
theorem dX1_errorPosition_1 : decode cX1_errorPosition 1 = .ok (.getfield 39, 3) := dk_180 0 39 (dk_at dksX1_errorPosition_0 1 rfl rfl)
theorem dX1_errorPosition_4 : decode cX1_errorPosition 4 = .ok (.iconst (-1), 1) := dk_2 (dk_at dksX1_errorPosition_0 4 rfl rfl)
theorem dX1_errorPosition_5 : decode cX1_errorPosition 5 = .ok (.if_icmp .eq 7, 3) := dk_159 0 7 (dk_at dksX1_errorPosition_0 5 rfl rfl)
theorem dX1_errorPosition_8 : decode cX1_errorPosition 8 = .ok (.iconst 1, 1) := dk_4 (dk_at dksX1_errorPosition_0 8 rfl rfl)
theorem dX1_errorPosition_9 : decode cX1_errorPosition 9 = .ok (.goto 4, 3) := dk_167 0 4 (dk_at dksX1_errorPosition_0 9 rfl rfl)
theorem dX1_errorPosition_12 : decode cX1_errorPosition 12 = .ok (.iconst 0, 1) := dk_3 (dk_at dksX1_errorPosition_0 12 rfl rfl)
theorem dX1_errorPosition_13 : decode cX1_errorPosition 13 = .ok (.invokestatic 237, 3) := dk_184 0 237 (dk_at dksX1_errorPosition_0 13 rfl rfl)
theorem dX1_errorPosition_16 : decode cX1_errorPosition 16 = .ok (.aload_n 0, 1) := dk_42 (dk_at dksX1_errorPosition_0 16 rfl rfl)
theorem dX1_errorPosition_17 : decode cX1_errorPosition 17 = .ok (.getfield 39, 3) := dk_180 0 39 (dk_at dksX1_errorPosition_0 17 rfl rfl)
theorem dX1_errorPosition_20 : decode cX1_errorPosition 20 = .ok (.ireturn, 1) := dk_172 (dk_at dksX1_errorPosition_0 20 rfl rfl)
abbrev cX1_refusal : ByteArray := prog_1_method_44_code
def yX1_refusal : MethodName := ⟨RX1, "refusal", "(IZ)I"⟩
def dkwX1_refusal_2 : List UInt8 := [153, 0, 10, 45, 182, 1, 77, 167, 0, 7, 45, 182, 1, 80, 172]
abbrev dktX1_refusal_2 : List UInt8 := dkwX1_refusal_2 ++ []
def dkwX1_refusal_1 : List UInt8 := [42, 180, 0, 87, 27, 182, 1, 73, 78, 45, 198, 0, 7, 4, 167, 0, 4, 3, 184, 0, 237, 28]
abbrev dktX1_refusal_1 : List UInt8 := dkwX1_refusal_1 ++ dktX1_refusal_2
def dkwX1_refusal_0 : List UInt8 := [27, 3, 5, 184, 0, 107, 184, 0, 137, 42, 180, 0, 87, 198, 0, 7, 4, 167, 0, 4, 3, 184, 0, 237]
abbrev dktX1_refusal_0 : List UInt8 := dkwX1_refusal_0 ++ dktX1_refusal_1
theorem dksX1_refusal_0 : cX1_refusal.data.toList.drop 0 = dktX1_refusal_0 := by decide +kernel
theorem dksX1_refusal_1 : cX1_refusal.data.toList.drop 24 = dktX1_refusal_1 := dk_seg dksX1_refusal_0 24 rfl rfl
theorem dksX1_refusal_2 : cX1_refusal.data.toList.drop 46 = dktX1_refusal_2 := dk_seg dksX1_refusal_1 22 rfl rfl
theorem dX1_refusal_0 : decode cX1_refusal 0 = .ok (.iload_n 1, 1) := dk_27 (dk_at dksX1_refusal_0 0 rfl rfl)
theorem dX1_refusal_1 : decode cX1_refusal 1 = .ok (.iconst 0, 1) := dk_3 (dk_at dksX1_refusal_0 1 rfl rfl)
theorem dX1_refusal_2 : decode cX1_refusal 2 = .ok (.iconst 2, 1) := dk_5 (dk_at dksX1_refusal_0 2 rfl rfl)
theorem dX1_refusal_3 : decode cX1_refusal 3 = .ok (.invokestatic 107, 3) := dk_184 0 107 (dk_at dksX1_refusal_0 3 rfl rfl)
theorem dX1_refusal_6 : decode cX1_refusal 6 = .ok (.invokestatic 137, 3) := dk_184 0 137 (dk_at dksX1_refusal_0 6 rfl rfl)
theorem dX1_refusal_9 : decode cX1_refusal 9 = .ok (.aload_n 0, 1) := dk_42 (dk_at dksX1_refusal_0 9 rfl rfl)
theorem dX1_refusal_10 : decode cX1_refusal 10 = .ok (.getfield 87, 3) := dk_180 0 87 (dk_at dksX1_refusal_0 10 rfl rfl)
theorem dX1_refusal_13 : decode cX1_refusal 13 = .ok (.ifnull 7, 3) := dk_198 0 7 (dk_at dksX1_refusal_0 13 rfl rfl)
theorem dX1_refusal_16 : decode cX1_refusal 16 = .ok (.iconst 1, 1) := dk_4 (dk_at dksX1_refusal_0 16 rfl rfl)
theorem dX1_refusal_17 : decode cX1_refusal 17 = .ok (.goto 4, 3) := dk_167 0 4 (dk_at dksX1_refusal_0 17 rfl rfl)
theorem dX1_refusal_20 : decode cX1_refusal 20 = .ok (.iconst 0, 1) := dk_3 (dk_at dksX1_refusal_0 20 rfl rfl)
theorem dX1_refusal_21 : decode cX1_refusal 21 = .ok (.invokestatic 237, 3) := dk_184 0 237 (dk_at dksX1_refusal_0 21 rfl rfl)
theorem dX1_refusal_24 : decode cX1_refusal 24 = .ok (.aload_n 0, 1) := dk_42 (dk_at dksX1_refusal_1 0 rfl rfl)
theorem dX1_refusal_25 : decode cX1_refusal 25 = .ok (.getfield 87, 3) := dk_180 0 87 (dk_at dksX1_refusal_1 1 rfl rfl)
theorem dX1_refusal_28 : decode cX1_refusal 28 = .ok (.iload_n 1, 1) := dk_27 (dk_at dksX1_refusal_1 4 rfl rfl)
theorem dX1_refusal_29 : decode cX1_refusal 29 = .ok (.invokevirtual 329, 3) := dk_182 1 73 (dk_at dksX1_refusal_1 5 rfl rfl)
theorem dX1_refusal_32 : decode cX1_refusal 32 = .ok (.astore_n 3, 1) := dk_78 (dk_at dksX1_refusal_1 8 rfl rfl)
theorem dX1_refusal_33 : decode cX1_refusal 33 = .ok (.aload_n 3, 1) := dk_45 (dk_at dksX1_refusal_1 9 rfl rfl)
theorem dX1_refusal_34 : decode cX1_refusal 34 = .ok (.ifnull 7, 3) := dk_198 0 7 (dk_at dksX1_refusal_1 10 rfl rfl)
theorem dX1_refusal_37 : decode cX1_refusal 37 = .ok (.iconst 1, 1) := dk_4 (dk_at dksX1_refusal_1 13 rfl rfl)
theorem dX1_refusal_38 : decode cX1_refusal 38 = .ok (.goto 4, 3) := dk_167 0 4 (dk_at dksX1_refusal_1 14 rfl rfl)
theorem dX1_refusal_41 : decode cX1_refusal 41 = .ok (.iconst 0, 1) := dk_3 (dk_at dksX1_refusal_1 17 rfl rfl)
theorem dX1_refusal_42 : decode cX1_refusal 42 = .ok (.invokestatic 237, 3) := dk_184 0 237 (dk_at dksX1_refusal_1 18 rfl rfl)
theorem dX1_refusal_45 : decode cX1_refusal 45 = .ok (.iload_n 2, 1) := dk_28 (dk_at dksX1_refusal_1 21 rfl rfl)
theorem dX1_refusal_46 : decode cX1_refusal 46 = .ok (.ifCond .eq 10, 3) := dk_153 0 10 (dk_at dksX1_refusal_2 0 rfl rfl)
theorem dX1_refusal_49 : decode cX1_refusal 49 = .ok (.aload_n 3, 1) := dk_45 (dk_at dksX1_refusal_2 3 rfl rfl)
theorem dX1_refusal_50 : decode cX1_refusal 50 = .ok (.invokevirtual 333, 3) := dk_182 1 77 (dk_at dksX1_refusal_2 4 rfl rfl)
theorem dX1_refusal_53 : decode cX1_refusal 53 = .ok (.goto 7, 3) := dk_167 0 7 (dk_at dksX1_refusal_2 7 rfl rfl)
theorem dX1_refusal_56 : decode cX1_refusal 56 = .ok (.aload_n 3, 1) := dk_45 (dk_at dksX1_refusal_2 10 rfl rfl)
theorem dX1_refusal_57 : decode cX1_refusal 57 = .ok (.invokevirtual 336, 3) := dk_182 1 80 (dk_at dksX1_refusal_2 11 rfl rfl)
theorem dX1_refusal_60 : decode cX1_refusal 60 = .ok (.ireturn, 1) := dk_172 (dk_at dksX1_refusal_2 14 rfl rfl)
abbrev cX1_describe : ByteArray := prog_1_method_45_code
def yX1_describe : MethodName := ⟨RX1, "describe", "(I)I"⟩
def dkwX1_describe_1 : List UInt8 := [181, 0, 45, 42, 180, 0, 45, 182, 1, 91, 172]
abbrev dktX1_describe_1 : List UInt8 := dkwX1_describe_1 ++ []
def dkwX1_describe_0 : List UInt8 := [187, 0, 32, 89, 183, 0, 34, 77, 42, 27, 182, 0, 153, 44, 182, 1, 83, 42, 44, 182, 1, 87]
abbrev dktX1_describe_0 : List UInt8 := dkwX1_describe_0 ++ dktX1_describe_1
theorem dksX1_describe_0 : cX1_describe.data.toList.drop 0 = dktX1_describe_0 := by decide +kernel
theorem dksX1_describe_1 : cX1_describe.data.toList.drop 22 = dktX1_describe_1 := dk_seg dksX1_describe_0 22 rfl rfl
theorem dX1_describe_0 : decode cX1_describe 0 = .ok (.new 32, 3) := dk_187 0 32 (dk_at dksX1_describe_0 0 rfl rfl)
theorem dX1_describe_3 : decode cX1_describe 3 = .ok (.dup, 1) := dk_89 (dk_at dksX1_describe_0 3 rfl rfl)
theorem dX1_describe_4 : decode cX1_describe 4 = .ok (.invokespecial 34, 3) := dk_183 0 34 (dk_at dksX1_describe_0 4 rfl rfl)
theorem dX1_describe_7 : decode cX1_describe 7 = .ok (.astore_n 2, 1) := dk_77 (dk_at dksX1_describe_0 7 rfl rfl)
theorem dX1_describe_8 : decode cX1_describe 8 = .ok (.aload_n 0, 1) := dk_42 (dk_at dksX1_describe_0 8 rfl rfl)
theorem dX1_describe_9 : decode cX1_describe 9 = .ok (.iload_n 1, 1) := dk_27 (dk_at dksX1_describe_0 9 rfl rfl)
theorem dX1_describe_10 : decode cX1_describe 10 = .ok (.invokevirtual 153, 3) := dk_182 0 153 (dk_at dksX1_describe_0 10 rfl rfl)
theorem dX1_describe_13 : decode cX1_describe 13 = .ok (.aload_n 2, 1) := dk_44 (dk_at dksX1_describe_0 13 rfl rfl)
theorem dX1_describe_14 : decode cX1_describe 14 = .ok (.invokevirtual 339, 3) := dk_182 1 83 (dk_at dksX1_describe_0 14 rfl rfl)
theorem dX1_describe_17 : decode cX1_describe 17 = .ok (.aload_n 0, 1) := dk_42 (dk_at dksX1_describe_0 17 rfl rfl)
theorem dX1_describe_18 : decode cX1_describe 18 = .ok (.aload_n 2, 1) := dk_44 (dk_at dksX1_describe_0 18 rfl rfl)
theorem dX1_describe_19 : decode cX1_describe 19 = .ok (.invokevirtual 343, 3) := dk_182 1 87 (dk_at dksX1_describe_0 19 rfl rfl)
theorem dX1_describe_22 : decode cX1_describe 22 = .ok (.putfield 45, 3) := dk_181 0 45 (dk_at dksX1_describe_1 0 rfl rfl)
theorem dX1_describe_25 : decode cX1_describe 25 = .ok (.aload_n 0, 1) := dk_42 (dk_at dksX1_describe_1 3 rfl rfl)
theorem dX1_describe_26 : decode cX1_describe 26 = .ok (.getfield 45, 3) := dk_180 0 45 (dk_at dksX1_describe_1 4 rfl rfl)
theorem dX1_describe_29 : decode cX1_describe 29 = .ok (.invokevirtual 347, 3) := dk_182 1 91 (dk_at dksX1_describe_1 7 rfl rfl)
theorem dX1_describe_32 : decode cX1_describe 32 = .ok (.ireturn, 1) := dk_172 (dk_at dksX1_describe_1 10 rfl rfl)
abbrev cX1_written : ByteArray := prog_1_method_46_code
def yX1_written : MethodName := ⟨RX1, "written", "(I)C"⟩
def dkwX1_written_1 : List UInt8 := [182, 1, 94, 172]
abbrev dktX1_written_1 : List UInt8 := dkwX1_written_1 ++ []
def dkwX1_written_0 : List UInt8 := [27, 3, 42, 180, 0, 45, 182, 1, 91, 4, 100, 184, 0, 107, 184, 0, 237, 42, 180, 0, 45, 27]
abbrev dktX1_written_0 : List UInt8 := dkwX1_written_0 ++ dktX1_written_1
theorem dksX1_written_0 : cX1_written.data.toList.drop 0 = dktX1_written_0 := by decide +kernel
theorem dksX1_written_1 : cX1_written.data.toList.drop 22 = dktX1_written_1 := dk_seg dksX1_written_0 22 rfl rfl
theorem dX1_written_0 : decode cX1_written 0 = .ok (.iload_n 1, 1) := dk_27 (dk_at dksX1_written_0 0 rfl rfl)
theorem dX1_written_1 : decode cX1_written 1 = .ok (.iconst 0, 1) := dk_3 (dk_at dksX1_written_0 1 rfl rfl)
theorem dX1_written_2 : decode cX1_written 2 = .ok (.aload_n 0, 1) := dk_42 (dk_at dksX1_written_0 2 rfl rfl)
theorem dX1_written_3 : decode cX1_written 3 = .ok (.getfield 45, 3) := dk_180 0 45 (dk_at dksX1_written_0 3 rfl rfl)
theorem dX1_written_6 : decode cX1_written 6 = .ok (.invokevirtual 347, 3) := dk_182 1 91 (dk_at dksX1_written_0 6 rfl rfl)
theorem dX1_written_9 : decode cX1_written 9 = .ok (.iconst 1, 1) := dk_4 (dk_at dksX1_written_0 9 rfl rfl)
theorem dX1_written_10 : decode cX1_written 10 = .ok (.isub, 1) := dk_100 (dk_at dksX1_written_0 10 rfl rfl)
theorem dX1_written_11 : decode cX1_written 11 = .ok (.invokestatic 107, 3) := dk_184 0 107 (dk_at dksX1_written_0 11 rfl rfl)
theorem dX1_written_14 : decode cX1_written 14 = .ok (.invokestatic 237, 3) := dk_184 0 237 (dk_at dksX1_written_0 14 rfl rfl)
theorem dX1_written_17 : decode cX1_written 17 = .ok (.aload_n 0, 1) := dk_42 (dk_at dksX1_written_0 17 rfl rfl)
theorem dX1_written_18 : decode cX1_written 18 = .ok (.getfield 45, 3) := dk_180 0 45 (dk_at dksX1_written_0 18 rfl rfl)
theorem dX1_written_21 : decode cX1_written 21 = .ok (.iload_n 1, 1) := dk_27 (dk_at dksX1_written_0 21 rfl rfl)
theorem dX1_written_22 : decode cX1_written 22 = .ok (.invokevirtual 350, 3) := dk_182 1 94 (dk_at dksX1_written_1 0 rfl rfl)
theorem dX1_written_25 : decode cX1_written 25 = .ok (.ireturn, 1) := dk_172 (dk_at dksX1_written_1 3 rfl rfl)
abbrev cX1_account : ByteArray := prog_1_method_47_code
def yX1_account : MethodName := ⟨RX1, "account", "(I)I"⟩
def dkwX1_account_8 : List UInt8 := [167, 0, 21, 42, 180, 0, 28, 182, 0, 61, 167, 0, 11, 187, 0, 49, 89, 183, 0, 51, 191, 172]
abbrev dktX1_account_8 : List UInt8 := dkwX1_account_8 ++ []
def dkwX1_account_7 : List UInt8 := [182, 1, 119, 167, 0, 42, 42, 180, 0, 21, 5, 182, 1, 113, 167, 0, 31, 42, 180, 0, 35, 182, 1, 39]
abbrev dktX1_account_7 : List UInt8 := dkwX1_account_7 ++ dktX1_account_8
def dkwX1_account_6 : List UInt8 := [16, 8, 100, 182, 1, 113, 167, 0, 62, 42, 180, 0, 21, 182, 1, 116, 167, 0, 52, 42, 180, 0, 21]
abbrev dktX1_account_6 : List UInt8 := dkwX1_account_6 ++ dktX1_account_7
def dkwX1_account_5 : List UInt8 := [180, 0, 21, 182, 1, 107, 167, 0, 86, 42, 180, 0, 21, 182, 1, 110, 167, 0, 76, 42, 180, 0, 21, 27]
abbrev dktX1_account_5 : List UInt8 := dkwX1_account_5 ++ dktX1_account_6
def dkwX1_account_4 : List UInt8 := [167, 0, 116, 42, 180, 0, 21, 182, 1, 101, 167, 0, 106, 42, 180, 0, 21, 182, 1, 104, 167, 0, 96, 42]
abbrev dktX1_account_4 : List UInt8 := dkwX1_account_4 ++ dktX1_account_5
def dkwX1_account_3 : List UInt8 := [182, 0, 115, 185, 0, 119, 1, 0, 167, 0, 131, 42, 180, 0, 21, 182, 0, 126, 185, 0, 119, 1, 0]
abbrev dktX1_account_3 : List UInt8 := dkwX1_account_3 ++ dktX1_account_4
def dkwX1_account_2 : List UInt8 := [42, 180, 0, 21, 182, 1, 98, 167, 0, 156, 42, 180, 0, 21, 182, 0, 228, 167, 0, 146, 42, 180, 0, 21]
abbrev dktX1_account_2 : List UInt8 := dkwX1_account_2 ++ dktX1_account_3
def dkwX1_account_1 : List UInt8 := [170, 0, 0, 0, 0, 0, 230, 0, 0, 0, 0, 0, 0, 0, 14, 0, 0, 0, 75, 0, 0, 0, 85, 0, 0, 0, 95, 0, 0, 0, 110, 0, 0, 0, 125, 0, 0, 0, 135, 0, 0, 0, 145, 0, 0, 0, 155, 0, 0, 0, 165, 0, 0, 0, 165, 0, 0, 0, 179, 0, 0, 0, 189, 0, 0, 0, 199, 0, 0, 0, 210, 0, 0, 0, 220]
abbrev dktX1_account_1 : List UInt8 := dkwX1_account_1 ++ dktX1_account_2
def dkwX1_account_0 : List UInt8 := [27]
abbrev dktX1_account_0 : List UInt8 := dkwX1_account_0 ++ dktX1_account_1
theorem dksX1_account_0 : cX1_account.data.toList.drop 0 = dktX1_account_0 := by decide +kernel
theorem dksX1_account_1 : cX1_account.data.toList.drop 1 = dktX1_account_1 := dk_seg dksX1_account_0 1 rfl rfl
theorem dksX1_account_2 : cX1_account.data.toList.drop 76 = dktX1_account_2 := dk_seg dksX1_account_1 75 rfl rfl
theorem dksX1_account_3 : cX1_account.data.toList.drop 100 = dktX1_account_3 := dk_seg dksX1_account_2 24 rfl rfl
theorem dksX1_account_4 : cX1_account.data.toList.drop 123 = dktX1_account_4 := dk_seg dksX1_account_3 23 rfl rfl
theorem dksX1_account_5 : cX1_account.data.toList.drop 147 = dktX1_account_5 := dk_seg dksX1_account_4 24 rfl rfl
theorem dksX1_account_6 : cX1_account.data.toList.drop 171 = dktX1_account_6 := dk_seg dksX1_account_5 24 rfl rfl
theorem dksX1_account_7 : cX1_account.data.toList.drop 194 = dktX1_account_7 := dk_seg dksX1_account_6 23 rfl rfl
theorem dksX1_account_8 : cX1_account.data.toList.drop 218 = dktX1_account_8 := dk_seg dksX1_account_7 24 rfl rfl
theorem dX1_account_0 : decode cX1_account 0 = .ok (.iload_n 1, 1) := dk_27 (dk_at dksX1_account_0 0 rfl rfl)
theorem dX1_account_1 : decode cX1_account 1 = .ok (.tableswitch 230 0 14 #[75, 85, 95, 110, 125, 135, 145, 155, 165, 165, 179, 189, 199, 210, 220], 75) := by decide +kernel
theorem dX1_account_76 : decode cX1_account 76 = .ok (.aload_n 0, 1) := dk_42 (dk_at dksX1_account_2 0 rfl rfl)
theorem dX1_account_77 : decode cX1_account 77 = .ok (.getfield 21, 3) := dk_180 0 21 (dk_at dksX1_account_2 1 rfl rfl)
theorem dX1_account_80 : decode cX1_account 80 = .ok (.invokevirtual 354, 3) := dk_182 1 98 (dk_at dksX1_account_2 4 rfl rfl)
theorem dX1_account_83 : decode cX1_account 83 = .ok (.goto 156, 3) := dk_167 0 156 (dk_at dksX1_account_2 7 rfl rfl)
theorem dX1_account_86 : decode cX1_account 86 = .ok (.aload_n 0, 1) := dk_42 (dk_at dksX1_account_2 10 rfl rfl)
theorem dX1_account_87 : decode cX1_account 87 = .ok (.getfield 21, 3) := dk_180 0 21 (dk_at dksX1_account_2 11 rfl rfl)
theorem dX1_account_90 : decode cX1_account 90 = .ok (.invokevirtual 228, 3) := dk_182 0 228 (dk_at dksX1_account_2 14 rfl rfl)
theorem dX1_account_93 : decode cX1_account 93 = .ok (.goto 146, 3) := dk_167 0 146 (dk_at dksX1_account_2 17 rfl rfl)
theorem dX1_account_96 : decode cX1_account 96 = .ok (.aload_n 0, 1) := dk_42 (dk_at dksX1_account_2 20 rfl rfl)
theorem dX1_account_97 : decode cX1_account 97 = .ok (.getfield 21, 3) := dk_180 0 21 (dk_at dksX1_account_2 21 rfl rfl)
theorem dX1_account_100 : decode cX1_account 100 = .ok (.invokevirtual 115, 3) := dk_182 0 115 (dk_at dksX1_account_3 0 rfl rfl)
theorem dX1_account_103 : decode cX1_account 103 = .ok (.invokeinterface 119 1, 5) := by decide +kernel
theorem dX1_account_108 : decode cX1_account 108 = .ok (.goto 131, 3) := dk_167 0 131 (dk_at dksX1_account_3 8 rfl rfl)
theorem dX1_account_111 : decode cX1_account 111 = .ok (.aload_n 0, 1) := dk_42 (dk_at dksX1_account_3 11 rfl rfl)
theorem dX1_account_112 : decode cX1_account 112 = .ok (.getfield 21, 3) := dk_180 0 21 (dk_at dksX1_account_3 12 rfl rfl)
theorem dX1_account_115 : decode cX1_account 115 = .ok (.invokevirtual 126, 3) := dk_182 0 126 (dk_at dksX1_account_3 15 rfl rfl)
theorem dX1_account_118 : decode cX1_account 118 = .ok (.invokeinterface 119 1, 5) := by decide +kernel
theorem dX1_account_123 : decode cX1_account 123 = .ok (.goto 116, 3) := dk_167 0 116 (dk_at dksX1_account_4 0 rfl rfl)
theorem dX1_account_126 : decode cX1_account 126 = .ok (.aload_n 0, 1) := dk_42 (dk_at dksX1_account_4 3 rfl rfl)
theorem dX1_account_127 : decode cX1_account 127 = .ok (.getfield 21, 3) := dk_180 0 21 (dk_at dksX1_account_4 4 rfl rfl)
theorem dX1_account_130 : decode cX1_account 130 = .ok (.invokevirtual 357, 3) := dk_182 1 101 (dk_at dksX1_account_4 7 rfl rfl)
theorem dX1_account_133 : decode cX1_account 133 = .ok (.goto 106, 3) := dk_167 0 106 (dk_at dksX1_account_4 10 rfl rfl)
theorem dX1_account_136 : decode cX1_account 136 = .ok (.aload_n 0, 1) := dk_42 (dk_at dksX1_account_4 13 rfl rfl)
theorem dX1_account_137 : decode cX1_account 137 = .ok (.getfield 21, 3) := dk_180 0 21 (dk_at dksX1_account_4 14 rfl rfl)
theorem dX1_account_140 : decode cX1_account 140 = .ok (.invokevirtual 360, 3) := dk_182 1 104 (dk_at dksX1_account_4 17 rfl rfl)
theorem dX1_account_143 : decode cX1_account 143 = .ok (.goto 96, 3) := dk_167 0 96 (dk_at dksX1_account_4 20 rfl rfl)
theorem dX1_account_146 : decode cX1_account 146 = .ok (.aload_n 0, 1) := dk_42 (dk_at dksX1_account_4 23 rfl rfl)
theorem dX1_account_147 : decode cX1_account 147 = .ok (.getfield 21, 3) := dk_180 0 21 (dk_at dksX1_account_5 0 rfl rfl)
theorem dX1_account_150 : decode cX1_account 150 = .ok (.invokevirtual 363, 3) := dk_182 1 107 (dk_at dksX1_account_5 3 rfl rfl)
theorem dX1_account_153 : decode cX1_account 153 = .ok (.goto 86, 3) := dk_167 0 86 (dk_at dksX1_account_5 6 rfl rfl)
theorem dX1_account_156 : decode cX1_account 156 = .ok (.aload_n 0, 1) := dk_42 (dk_at dksX1_account_5 9 rfl rfl)
theorem dX1_account_157 : decode cX1_account 157 = .ok (.getfield 21, 3) := dk_180 0 21 (dk_at dksX1_account_5 10 rfl rfl)
theorem dX1_account_160 : decode cX1_account 160 = .ok (.invokevirtual 366, 3) := dk_182 1 110 (dk_at dksX1_account_5 13 rfl rfl)
theorem dX1_account_163 : decode cX1_account 163 = .ok (.goto 76, 3) := dk_167 0 76 (dk_at dksX1_account_5 16 rfl rfl)
theorem dX1_account_166 : decode cX1_account 166 = .ok (.aload_n 0, 1) := dk_42 (dk_at dksX1_account_5 19 rfl rfl)
theorem dX1_account_167 : decode cX1_account 167 = .ok (.getfield 21, 3) := dk_180 0 21 (dk_at dksX1_account_5 20 rfl rfl)
theorem dX1_account_170 : decode cX1_account 170 = .ok (.iload_n 1, 1) := dk_27 (dk_at dksX1_account_5 23 rfl rfl)
theorem dX1_account_171 : decode cX1_account 171 = .ok (.bipush 8, 2) := dk_16 8 (dk_at dksX1_account_6 0 rfl rfl)
theorem dX1_account_173 : decode cX1_account 173 = .ok (.isub, 1) := dk_100 (dk_at dksX1_account_6 2 rfl rfl)
theorem dX1_account_174 : decode cX1_account 174 = .ok (.invokevirtual 369, 3) := dk_182 1 113 (dk_at dksX1_account_6 3 rfl rfl)
theorem dX1_account_177 : decode cX1_account 177 = .ok (.goto 62, 3) := dk_167 0 62 (dk_at dksX1_account_6 6 rfl rfl)
theorem dX1_account_180 : decode cX1_account 180 = .ok (.aload_n 0, 1) := dk_42 (dk_at dksX1_account_6 9 rfl rfl)
theorem dX1_account_181 : decode cX1_account 181 = .ok (.getfield 21, 3) := dk_180 0 21 (dk_at dksX1_account_6 10 rfl rfl)
theorem dX1_account_184 : decode cX1_account 184 = .ok (.invokevirtual 372, 3) := dk_182 1 116 (dk_at dksX1_account_6 13 rfl rfl)
theorem dX1_account_187 : decode cX1_account 187 = .ok (.goto 52, 3) := dk_167 0 52 (dk_at dksX1_account_6 16 rfl rfl)
theorem dX1_account_190 : decode cX1_account 190 = .ok (.aload_n 0, 1) := dk_42 (dk_at dksX1_account_6 19 rfl rfl)
theorem dX1_account_191 : decode cX1_account 191 = .ok (.getfield 21, 3) := dk_180 0 21 (dk_at dksX1_account_6 20 rfl rfl)
theorem dX1_account_194 : decode cX1_account 194 = .ok (.invokevirtual 375, 3) := dk_182 1 119 (dk_at dksX1_account_7 0 rfl rfl)
theorem dX1_account_197 : decode cX1_account 197 = .ok (.goto 42, 3) := dk_167 0 42 (dk_at dksX1_account_7 3 rfl rfl)
theorem dX1_account_200 : decode cX1_account 200 = .ok (.aload_n 0, 1) := dk_42 (dk_at dksX1_account_7 6 rfl rfl)
theorem dX1_account_201 : decode cX1_account 201 = .ok (.getfield 21, 3) := dk_180 0 21 (dk_at dksX1_account_7 7 rfl rfl)
theorem dX1_account_204 : decode cX1_account 204 = .ok (.iconst 2, 1) := dk_5 (dk_at dksX1_account_7 10 rfl rfl)
theorem dX1_account_205 : decode cX1_account 205 = .ok (.invokevirtual 369, 3) := dk_182 1 113 (dk_at dksX1_account_7 11 rfl rfl)
theorem dX1_account_208 : decode cX1_account 208 = .ok (.goto 31, 3) := dk_167 0 31 (dk_at dksX1_account_7 14 rfl rfl)
theorem dX1_account_211 : decode cX1_account 211 = .ok (.aload_n 0, 1) := dk_42 (dk_at dksX1_account_7 17 rfl rfl)
theorem dX1_account_212 : decode cX1_account 212 = .ok (.getfield 35, 3) := dk_180 0 35 (dk_at dksX1_account_7 18 rfl rfl)
theorem dX1_account_215 : decode cX1_account 215 = .ok (.invokevirtual 295, 3) := dk_182 1 39 (dk_at dksX1_account_7 21 rfl rfl)
theorem dX1_account_218 : decode cX1_account 218 = .ok (.goto 21, 3) := dk_167 0 21 (dk_at dksX1_account_8 0 rfl rfl)
theorem dX1_account_221 : decode cX1_account 221 = .ok (.aload_n 0, 1) := dk_42 (dk_at dksX1_account_8 3 rfl rfl)
theorem dX1_account_222 : decode cX1_account 222 = .ok (.getfield 28, 3) := dk_180 0 28 (dk_at dksX1_account_8 4 rfl rfl)
theorem dX1_account_225 : decode cX1_account 225 = .ok (.invokevirtual 61, 3) := dk_182 0 61 (dk_at dksX1_account_8 7 rfl rfl)
theorem dX1_account_228 : decode cX1_account 228 = .ok (.goto 11, 3) := dk_167 0 11 (dk_at dksX1_account_8 10 rfl rfl)
theorem dX1_account_231 : decode cX1_account 231 = .ok (.new 49, 3) := dk_187 0 49 (dk_at dksX1_account_8 13 rfl rfl)
theorem dX1_account_234 : decode cX1_account 234 = .ok (.dup, 1) := dk_89 (dk_at dksX1_account_8 16 rfl rfl)
theorem dX1_account_235 : decode cX1_account 235 = .ok (.invokespecial 51, 3) := dk_183 0 51 (dk_at dksX1_account_8 17 rfl rfl)
theorem dX1_account_238 : decode cX1_account 238 = .ok (.athrow, 1) := dk_191 (dk_at dksX1_account_8 20 rfl rfl)
theorem dX1_account_239 : decode cX1_account 239 = .ok (.ireturn, 1) := dk_172 (dk_at dksX1_account_8 21 rfl rfl)
abbrev cX1_meanError : ByteArray := prog_1_method_50_code
def yX1_meanError : MethodName := ⟨RX1, "meanError", "()D"⟩
def dkwX1_meanError_0 : List UInt8 := [42, 182, 1, 126, 60, 42, 180, 0, 21, 6, 182, 1, 113, 135, 27, 135, 111, 175]
abbrev dktX1_meanError_0 : List UInt8 := dkwX1_meanError_0 ++ []
theorem dksX1_meanError_0 : cX1_meanError.data.toList.drop 0 = dktX1_meanError_0 := by decide +kernel
theorem dX1_meanError_0 : decode cX1_meanError 0 = .ok (.aload_n 0, 1) := dk_42 (dk_at dksX1_meanError_0 0 rfl rfl)
theorem dX1_meanError_1 : decode cX1_meanError 1 = .ok (.invokevirtual 382, 3) := dk_182 1 126 (dk_at dksX1_meanError_0 1 rfl rfl)
theorem dX1_meanError_4 : decode cX1_meanError 4 = .ok (.istore_n 1, 1) := dk_60 (dk_at dksX1_meanError_0 4 rfl rfl)
theorem dX1_meanError_5 : decode cX1_meanError 5 = .ok (.aload_n 0, 1) := dk_42 (dk_at dksX1_meanError_0 5 rfl rfl)
theorem dX1_meanError_6 : decode cX1_meanError 6 = .ok (.getfield 21, 3) := dk_180 0 21 (dk_at dksX1_meanError_0 6 rfl rfl)
theorem dX1_meanError_9 : decode cX1_meanError 9 = .ok (.iconst 3, 1) := dk_6 (dk_at dksX1_meanError_0 9 rfl rfl)
theorem dX1_meanError_10 : decode cX1_meanError 10 = .ok (.invokevirtual 369, 3) := dk_182 1 113 (dk_at dksX1_meanError_0 10 rfl rfl)
theorem dX1_meanError_13 : decode cX1_meanError 13 = .ok (.i2d, 1) := dk_135 (dk_at dksX1_meanError_0 13 rfl rfl)
theorem dX1_meanError_14 : decode cX1_meanError 14 = .ok (.iload_n 1, 1) := dk_27 (dk_at dksX1_meanError_0 14 rfl rfl)
theorem dX1_meanError_15 : decode cX1_meanError 15 = .ok (.i2d, 1) := dk_135 (dk_at dksX1_meanError_0 15 rfl rfl)
theorem dX1_meanError_16 : decode cX1_meanError 16 = .ok (.ddiv, 1) := dk_111 (dk_at dksX1_meanError_0 16 rfl rfl)
theorem dX1_meanError_17 : decode cX1_meanError 17 = .ok (.dreturn, 1) := dk_175 (dk_at dksX1_meanError_0 17 rfl rfl)
abbrev cX1_tradersMany : ByteArray := prog_1_method_49_code
def yX1_tradersMany : MethodName := ⟨RX1, "tradersMany", "()I"⟩
def dkwX1_tradersMany_1 : List UInt8 := [191, 27, 172]
abbrev dktX1_tradersMany_1 : List UInt8 := dkwX1_tradersMany_1 ++ []
def dkwX1_tradersMany_0 : List UInt8 := [42, 180, 0, 21, 182, 0, 115, 185, 0, 119, 1, 0, 60, 27, 154, 0, 11, 187, 1, 123, 89, 183, 1, 125]
abbrev dktX1_tradersMany_0 : List UInt8 := dkwX1_tradersMany_0 ++ dktX1_tradersMany_1
theorem dksX1_tradersMany_0 : cX1_tradersMany.data.toList.drop 0 = dktX1_tradersMany_0 := by decide +kernel
theorem dksX1_tradersMany_1 : cX1_tradersMany.data.toList.drop 24 = dktX1_tradersMany_1 := dk_seg dksX1_tradersMany_0 24 rfl rfl
theorem dX1_tradersMany_0 : decode cX1_tradersMany 0 = .ok (.aload_n 0, 1) := dk_42 (dk_at dksX1_tradersMany_0 0 rfl rfl)
theorem dX1_tradersMany_1 : decode cX1_tradersMany 1 = .ok (.getfield 21, 3) := dk_180 0 21 (dk_at dksX1_tradersMany_0 1 rfl rfl)
theorem dX1_tradersMany_4 : decode cX1_tradersMany 4 = .ok (.invokevirtual 115, 3) := dk_182 0 115 (dk_at dksX1_tradersMany_0 4 rfl rfl)
theorem dX1_tradersMany_7 : decode cX1_tradersMany 7 = .ok (.invokeinterface 119 1, 5) := by decide +kernel
theorem dX1_tradersMany_12 : decode cX1_tradersMany 12 = .ok (.istore_n 1, 1) := dk_60 (dk_at dksX1_tradersMany_0 12 rfl rfl)
theorem dX1_tradersMany_13 : decode cX1_tradersMany 13 = .ok (.iload_n 1, 1) := dk_27 (dk_at dksX1_tradersMany_0 13 rfl rfl)
theorem dX1_tradersMany_14 : decode cX1_tradersMany 14 = .ok (.ifCond .ne 11, 3) := dk_154 0 11 (dk_at dksX1_tradersMany_0 14 rfl rfl)
theorem dX1_tradersMany_17 : decode cX1_tradersMany 17 = .ok (.new 379, 3) := dk_187 1 123 (dk_at dksX1_tradersMany_0 17 rfl rfl)
theorem dX1_tradersMany_20 : decode cX1_tradersMany 20 = .ok (.dup, 1) := dk_89 (dk_at dksX1_tradersMany_0 20 rfl rfl)
theorem dX1_tradersMany_21 : decode cX1_tradersMany 21 = .ok (.invokespecial 381, 3) := dk_183 1 125 (dk_at dksX1_tradersMany_0 21 rfl rfl)
theorem dX1_tradersMany_24 : decode cX1_tradersMany 24 = .ok (.athrow, 1) := dk_191 (dk_at dksX1_tradersMany_1 0 rfl rfl)
theorem dX1_tradersMany_25 : decode cX1_tradersMany 25 = .ok (.iload_n 1, 1) := dk_27 (dk_at dksX1_tradersMany_1 1 rfl rfl)
theorem dX1_tradersMany_26 : decode cX1_tradersMany 26 = .ok (.ireturn, 1) := dk_172 (dk_at dksX1_tradersMany_1 2 rfl rfl)
abbrev cX1_sealedShare : ByteArray := prog_1_method_51_code
def yX1_sealedShare : MethodName := ⟨RX1, "sealedShare", "()F"⟩
def dkwX1_sealedShare_0 : List UInt8 := [42, 182, 1, 126, 60, 42, 180, 0, 21, 182, 1, 101, 134, 27, 134, 110, 174]
abbrev dktX1_sealedShare_0 : List UInt8 := dkwX1_sealedShare_0 ++ []
theorem dksX1_sealedShare_0 : cX1_sealedShare.data.toList.drop 0 = dktX1_sealedShare_0 := by decide +kernel
theorem dX1_sealedShare_0 : decode cX1_sealedShare 0 = .ok (.aload_n 0, 1) := dk_42 (dk_at dksX1_sealedShare_0 0 rfl rfl)
theorem dX1_sealedShare_1 : decode cX1_sealedShare 1 = .ok (.invokevirtual 382, 3) := dk_182 1 126 (dk_at dksX1_sealedShare_0 1 rfl rfl)
theorem dX1_sealedShare_4 : decode cX1_sealedShare 4 = .ok (.istore_n 1, 1) := dk_60 (dk_at dksX1_sealedShare_0 4 rfl rfl)
theorem dX1_sealedShare_5 : decode cX1_sealedShare 5 = .ok (.aload_n 0, 1) := dk_42 (dk_at dksX1_sealedShare_0 5 rfl rfl)
theorem dX1_sealedShare_6 : decode cX1_sealedShare 6 = .ok (.getfield 21, 3) := dk_180 0 21 (dk_at dksX1_sealedShare_0 6 rfl rfl)
theorem dX1_sealedShare_9 : decode cX1_sealedShare 9 = .ok (.invokevirtual 357, 3) := dk_182 1 101 (dk_at dksX1_sealedShare_0 9 rfl rfl)
theorem dX1_sealedShare_12 : decode cX1_sealedShare 12 = .ok (.i2f, 1) := dk_134 (dk_at dksX1_sealedShare_0 12 rfl rfl)
theorem dX1_sealedShare_13 : decode cX1_sealedShare 13 = .ok (.iload_n 1, 1) := dk_27 (dk_at dksX1_sealedShare_0 13 rfl rfl)
theorem dX1_sealedShare_14 : decode cX1_sealedShare 14 = .ok (.i2f, 1) := dk_134 (dk_at dksX1_sealedShare_0 14 rfl rfl)
theorem dX1_sealedShare_15 : decode cX1_sealedShare 15 = .ok (.fdiv, 1) := dk_110 (dk_at dksX1_sealedShare_0 15 rfl rfl)
theorem dX1_sealedShare_16 : decode cX1_sealedShare 16 = .ok (.freturn, 1) := dk_174 (dk_at dksX1_sealedShare_0 16 rfl rfl)
abbrev cX1_undo : ByteArray := prog_1_method_52_code
def yX1_undo : MethodName := ⟨RX1, "undo", "()I"⟩
def dkwX1_undo_1 : List UInt8 := [182, 1, 132, 192, 0, 18, 181, 0, 21, 42, 180, 0, 28, 182, 0, 61, 172]
abbrev dktX1_undo_1 : List UInt8 := dkwX1_undo_1 ++ []
def dkwX1_undo_0 : List UInt8 := [42, 180, 0, 28, 182, 1, 129, 154, 0, 7, 4, 167, 0, 4, 3, 184, 1, 42, 42, 42, 180, 0, 28]
abbrev dktX1_undo_0 : List UInt8 := dkwX1_undo_0 ++ dktX1_undo_1
theorem dksX1_undo_0 : cX1_undo.data.toList.drop 0 = dktX1_undo_0 := by decide +kernel
theorem dksX1_undo_1 : cX1_undo.data.toList.drop 23 = dktX1_undo_1 := dk_seg dksX1_undo_0 23 rfl rfl
theorem dX1_undo_0 : decode cX1_undo 0 = .ok (.aload_n 0, 1) := dk_42 (dk_at dksX1_undo_0 0 rfl rfl)
theorem dX1_undo_1 : decode cX1_undo 1 = .ok (.getfield 28, 3) := dk_180 0 28 (dk_at dksX1_undo_0 1 rfl rfl)
theorem dX1_undo_4 : decode cX1_undo 4 = .ok (.invokevirtual 385, 3) := dk_182 1 129 (dk_at dksX1_undo_0 4 rfl rfl)
theorem dX1_undo_7 : decode cX1_undo 7 = .ok (.ifCond .ne 7, 3) := dk_154 0 7 (dk_at dksX1_undo_0 7 rfl rfl)
theorem dX1_undo_10 : decode cX1_undo 10 = .ok (.iconst 1, 1) := dk_4 (dk_at dksX1_undo_0 10 rfl rfl)
theorem dX1_undo_11 : decode cX1_undo 11 = .ok (.goto 4, 3) := dk_167 0 4 (dk_at dksX1_undo_0 11 rfl rfl)
theorem dX1_undo_14 : decode cX1_undo 14 = .ok (.iconst 0, 1) := dk_3 (dk_at dksX1_undo_0 14 rfl rfl)
theorem dX1_undo_15 : decode cX1_undo 15 = .ok (.invokestatic 298, 3) := dk_184 1 42 (dk_at dksX1_undo_0 15 rfl rfl)
theorem dX1_undo_18 : decode cX1_undo 18 = .ok (.aload_n 0, 1) := dk_42 (dk_at dksX1_undo_0 18 rfl rfl)
theorem dX1_undo_19 : decode cX1_undo 19 = .ok (.aload_n 0, 1) := dk_42 (dk_at dksX1_undo_0 19 rfl rfl)
theorem dX1_undo_20 : decode cX1_undo 20 = .ok (.getfield 28, 3) := dk_180 0 28 (dk_at dksX1_undo_0 20 rfl rfl)
theorem dX1_undo_23 : decode cX1_undo 23 = .ok (.invokevirtual 388, 3) := dk_182 1 132 (dk_at dksX1_undo_1 0 rfl rfl)
theorem dX1_undo_26 : decode cX1_undo 26 = .ok (.checkcast 18, 3) := dk_192 0 18 (dk_at dksX1_undo_1 3 rfl rfl)
theorem dX1_undo_29 : decode cX1_undo 29 = .ok (.putfield 21, 3) := dk_181 0 21 (dk_at dksX1_undo_1 6 rfl rfl)
theorem dX1_undo_32 : decode cX1_undo 32 = .ok (.aload_n 0, 1) := dk_42 (dk_at dksX1_undo_1 9 rfl rfl)
theorem dX1_undo_33 : decode cX1_undo 33 = .ok (.getfield 28, 3) := dk_180 0 28 (dk_at dksX1_undo_1 10 rfl rfl)
theorem dX1_undo_36 : decode cX1_undo 36 = .ok (.invokevirtual 61, 3) := dk_182 0 61 (dk_at dksX1_undo_1 13 rfl rfl)
theorem dX1_undo_39 : decode cX1_undo 39 = .ok (.ireturn, 1) := dk_172 (dk_at dksX1_undo_1 16 rfl rfl)
abbrev cX1_restore : ByteArray := prog_1_method_54_code
def yX1_restore : MethodName := ⟨RX1, "restore", "()I"⟩
def dkwX1_restore_1 : List UInt8 := [180, 0, 28, 182, 1, 138, 42, 180, 0, 21, 182, 1, 98, 172]
abbrev dktX1_restore_1 : List UInt8 := dkwX1_restore_1 ++ []
def dkwX1_restore_0 : List UInt8 := [42, 180, 1, 135, 198, 0, 7, 4, 167, 0, 4, 3, 184, 1, 42, 42, 42, 180, 1, 135, 181, 0, 21, 42]
abbrev dktX1_restore_0 : List UInt8 := dkwX1_restore_0 ++ dktX1_restore_1
theorem dksX1_restore_0 : cX1_restore.data.toList.drop 0 = dktX1_restore_0 := by decide +kernel
theorem dksX1_restore_1 : cX1_restore.data.toList.drop 24 = dktX1_restore_1 := dk_seg dksX1_restore_0 24 rfl rfl
theorem dX1_restore_0 : decode cX1_restore 0 = .ok (.aload_n 0, 1) := dk_42 (dk_at dksX1_restore_0 0 rfl rfl)
theorem dX1_restore_1 : decode cX1_restore 1 = .ok (.getfield 391, 3) := dk_180 1 135 (dk_at dksX1_restore_0 1 rfl rfl)
theorem dX1_restore_4 : decode cX1_restore 4 = .ok (.ifnull 7, 3) := dk_198 0 7 (dk_at dksX1_restore_0 4 rfl rfl)
theorem dX1_restore_7 : decode cX1_restore 7 = .ok (.iconst 1, 1) := dk_4 (dk_at dksX1_restore_0 7 rfl rfl)
theorem dX1_restore_8 : decode cX1_restore 8 = .ok (.goto 4, 3) := dk_167 0 4 (dk_at dksX1_restore_0 8 rfl rfl)
theorem dX1_restore_11 : decode cX1_restore 11 = .ok (.iconst 0, 1) := dk_3 (dk_at dksX1_restore_0 11 rfl rfl)
theorem dX1_restore_12 : decode cX1_restore 12 = .ok (.invokestatic 298, 3) := dk_184 1 42 (dk_at dksX1_restore_0 12 rfl rfl)
theorem dX1_restore_15 : decode cX1_restore 15 = .ok (.aload_n 0, 1) := dk_42 (dk_at dksX1_restore_0 15 rfl rfl)
theorem dX1_restore_16 : decode cX1_restore 16 = .ok (.aload_n 0, 1) := dk_42 (dk_at dksX1_restore_0 16 rfl rfl)
theorem dX1_restore_17 : decode cX1_restore 17 = .ok (.getfield 391, 3) := dk_180 1 135 (dk_at dksX1_restore_0 17 rfl rfl)
theorem dX1_restore_20 : decode cX1_restore 20 = .ok (.putfield 21, 3) := dk_181 0 21 (dk_at dksX1_restore_0 20 rfl rfl)
theorem dX1_restore_23 : decode cX1_restore 23 = .ok (.aload_n 0, 1) := dk_42 (dk_at dksX1_restore_0 23 rfl rfl)
theorem dX1_restore_24 : decode cX1_restore 24 = .ok (.getfield 28, 3) := dk_180 0 28 (dk_at dksX1_restore_1 0 rfl rfl)
theorem dX1_restore_27 : decode cX1_restore 27 = .ok (.invokevirtual 394, 3) := dk_182 1 138 (dk_at dksX1_restore_1 3 rfl rfl)
theorem dX1_restore_30 : decode cX1_restore 30 = .ok (.aload_n 0, 1) := dk_42 (dk_at dksX1_restore_1 6 rfl rfl)
theorem dX1_restore_31 : decode cX1_restore 31 = .ok (.getfield 21, 3) := dk_180 0 21 (dk_at dksX1_restore_1 7 rfl rfl)
theorem dX1_restore_34 : decode cX1_restore 34 = .ok (.invokevirtual 354, 3) := dk_182 1 98 (dk_at dksX1_restore_1 10 rfl rfl)
theorem dX1_restore_37 : decode cX1_restore 37 = .ok (.ireturn, 1) := dk_172 (dk_at dksX1_restore_1 13 rfl rfl)
