/-! code and decode rows of X7 (claim/names) -/
set_option maxRecDepth 100000
abbrev cX7_copy : ByteArray := prog_8_method_2_code
def yX7_copy : MethodName := ⟨RX7, "copy", "()LBrassInspector$Brass;"⟩
def dkwX7_copy_1 : List UInt8 := [43, 42, 180, 0, 22, 181, 0, 22, 43, 176]
abbrev dktX7_copy_1 : List UInt8 := dkwX7_copy_1 ++ []
def dkwX7_copy_0 : List UInt8 := [187, 0, 8, 89, 42, 180, 0, 7, 42, 180, 0, 13, 183, 0, 16, 76, 43, 42, 180, 0, 19, 181, 0, 19]
abbrev dktX7_copy_0 : List UInt8 := dkwX7_copy_0 ++ dktX7_copy_1
theorem dksX7_copy_0 : cX7_copy.data.toList.drop 0 = dktX7_copy_0 := by decide +kernel
theorem dksX7_copy_1 : cX7_copy.data.toList.drop 24 = dktX7_copy_1 := dk_seg dksX7_copy_0 24 rfl rfl
theorem dX7_copy_0 : decode cX7_copy 0 = .ok (.new 8, 3) := dk_187 0 8 (dk_at dksX7_copy_0 0 rfl rfl)
theorem dX7_copy_3 : decode cX7_copy 3 = .ok (.dup, 1) := dk_89 (dk_at dksX7_copy_0 3 rfl rfl)
theorem dX7_copy_4 : decode cX7_copy 4 = .ok (.aload_n 0, 1) := dk_42 (dk_at dksX7_copy_0 4 rfl rfl)
theorem dX7_copy_5 : decode cX7_copy 5 = .ok (.getfield 7, 3) := dk_180 0 7 (dk_at dksX7_copy_0 5 rfl rfl)
theorem dX7_copy_8 : decode cX7_copy 8 = .ok (.aload_n 0, 1) := dk_42 (dk_at dksX7_copy_0 8 rfl rfl)
theorem dX7_copy_9 : decode cX7_copy 9 = .ok (.getfield 13, 3) := dk_180 0 13 (dk_at dksX7_copy_0 9 rfl rfl)
theorem dX7_copy_12 : decode cX7_copy 12 = .ok (.invokespecial 16, 3) := dk_183 0 16 (dk_at dksX7_copy_0 12 rfl rfl)
theorem dX7_copy_15 : decode cX7_copy 15 = .ok (.astore_n 1, 1) := dk_76 (dk_at dksX7_copy_0 15 rfl rfl)
theorem dX7_copy_16 : decode cX7_copy 16 = .ok (.aload_n 1, 1) := dk_43 (dk_at dksX7_copy_0 16 rfl rfl)
theorem dX7_copy_17 : decode cX7_copy 17 = .ok (.aload_n 0, 1) := dk_42 (dk_at dksX7_copy_0 17 rfl rfl)
theorem dX7_copy_18 : decode cX7_copy 18 = .ok (.getfield 19, 3) := dk_180 0 19 (dk_at dksX7_copy_0 18 rfl rfl)
theorem dX7_copy_21 : decode cX7_copy 21 = .ok (.putfield 19, 3) := dk_181 0 19 (dk_at dksX7_copy_0 21 rfl rfl)
theorem dX7_copy_24 : decode cX7_copy 24 = .ok (.aload_n 1, 1) := dk_43 (dk_at dksX7_copy_1 0 rfl rfl)
theorem dX7_copy_25 : decode cX7_copy 25 = .ok (.aload_n 0, 1) := dk_42 (dk_at dksX7_copy_1 1 rfl rfl)
theorem dX7_copy_26 : decode cX7_copy 26 = .ok (.getfield 22, 3) := dk_180 0 22 (dk_at dksX7_copy_1 2 rfl rfl)
theorem dX7_copy_29 : decode cX7_copy 29 = .ok (.putfield 22, 3) := dk_181 0 22 (dk_at dksX7_copy_1 5 rfl rfl)
theorem dX7_copy_32 : decode cX7_copy 32 = .ok (.aload_n 1, 1) := dk_43 (dk_at dksX7_copy_1 8 rfl rfl)
theorem dX7_copy_33 : decode cX7_copy 33 = .ok (.areturn, 1) := dk_176 (dk_at dksX7_copy_1 9 rfl rfl)
abbrev cX7_init : ByteArray := prog_8_method_1_code
def yX7_init : MethodName := ⟨RX7, "<init>", "(II)V"⟩
def dkwX7_init_0 : List UInt8 := [42, 183, 0, 1, 42, 27, 181, 0, 7, 42, 28, 181, 0, 13, 177]
abbrev dktX7_init_0 : List UInt8 := dkwX7_init_0 ++ []
theorem dksX7_init_0 : cX7_init.data.toList.drop 0 = dktX7_init_0 := by decide +kernel
theorem dX7_init_0 : decode cX7_init 0 = .ok (.aload_n 0, 1) := dk_42 (dk_at dksX7_init_0 0 rfl rfl)
theorem dX7_init_1 : decode cX7_init 1 = .ok (.invokespecial 1, 3) := dk_183 0 1 (dk_at dksX7_init_0 1 rfl rfl)
theorem dX7_init_4 : decode cX7_init 4 = .ok (.aload_n 0, 1) := dk_42 (dk_at dksX7_init_0 4 rfl rfl)
theorem dX7_init_5 : decode cX7_init 5 = .ok (.iload_n 1, 1) := dk_27 (dk_at dksX7_init_0 5 rfl rfl)
theorem dX7_init_6 : decode cX7_init 6 = .ok (.putfield 7, 3) := dk_181 0 7 (dk_at dksX7_init_0 6 rfl rfl)
theorem dX7_init_9 : decode cX7_init 9 = .ok (.aload_n 0, 1) := dk_42 (dk_at dksX7_init_0 9 rfl rfl)
theorem dX7_init_10 : decode cX7_init 10 = .ok (.iload_n 2, 1) := dk_28 (dk_at dksX7_init_0 10 rfl rfl)
theorem dX7_init_11 : decode cX7_init 11 = .ok (.putfield 13, 3) := dk_181 0 13 (dk_at dksX7_init_0 11 rfl rfl)
theorem dX7_init_14 : decode cX7_init 14 = .ok (.return_, 1) := dk_177 (dk_at dksX7_init_0 14 rfl rfl)
abbrev cX7_wear : ByteArray := prog_8_method_5_code
def yX7_wear : MethodName := ⟨RX7, "wear", "()I"⟩
theorem dX7_wear_0 : decode cX7_wear 0 = .ok (.aload_n 0, 1) := by decide +kernel
theorem dX7_wear_1 : decode cX7_wear 1 = .ok (.getfield 19, 3) := by decide +kernel
theorem dX7_wear_4 : decode cX7_wear 4 = .ok (.ireturn, 1) := by decide +kernel
abbrev cX7_renewed : ByteArray := prog_8_method_8_code
def yX7_renewed : MethodName := ⟨RX7, "renewed", "()I"⟩
def dkwX7_renewed_0 : List UInt8 := [42, 180, 0, 19, 60, 42, 3, 181, 0, 19, 27, 172]
abbrev dktX7_renewed_0 : List UInt8 := dkwX7_renewed_0 ++ []
theorem dksX7_renewed_0 : cX7_renewed.data.toList.drop 0 = dktX7_renewed_0 := by decide +kernel
theorem dX7_renewed_0 : decode cX7_renewed 0 = .ok (.aload_n 0, 1) := dk_42 (dk_at dksX7_renewed_0 0 rfl rfl)
theorem dX7_renewed_1 : decode cX7_renewed 1 = .ok (.getfield 19, 3) := dk_180 0 19 (dk_at dksX7_renewed_0 1 rfl rfl)
theorem dX7_renewed_4 : decode cX7_renewed 4 = .ok (.istore_n 1, 1) := dk_60 (dk_at dksX7_renewed_0 4 rfl rfl)
theorem dX7_renewed_5 : decode cX7_renewed 5 = .ok (.aload_n 0, 1) := dk_42 (dk_at dksX7_renewed_0 5 rfl rfl)
theorem dX7_renewed_6 : decode cX7_renewed 6 = .ok (.iconst 0, 1) := dk_3 (dk_at dksX7_renewed_0 6 rfl rfl)
theorem dX7_renewed_7 : decode cX7_renewed 7 = .ok (.putfield 19, 3) := dk_181 0 19 (dk_at dksX7_renewed_0 7 rfl rfl)
theorem dX7_renewed_10 : decode cX7_renewed 10 = .ok (.iload_n 1, 1) := dk_27 (dk_at dksX7_renewed_0 10 rfl rfl)
theorem dX7_renewed_11 : decode cX7_renewed 11 = .ok (.ireturn, 1) := dk_172 (dk_at dksX7_renewed_0 11 rfl rfl)
abbrev cX7_isUsed : ByteArray := prog_8_method_7_code
def yX7_isUsed : MethodName := ⟨RX7, "isUsed", "()V"⟩
def dkwX7_isUsed_1 : List UInt8 := [7, 112, 154, 0, 7, 4, 167, 0, 4, 3, 96, 181, 0, 19, 177]
abbrev dktX7_isUsed_1 : List UInt8 := dkwX7_isUsed_1 ++ []
def dkwX7_isUsed_0 : List UInt8 := [42, 89, 180, 0, 22, 4, 96, 181, 0, 22, 42, 89, 180, 0, 19, 42, 180, 0, 13, 42, 180, 0, 22, 96]
abbrev dktX7_isUsed_0 : List UInt8 := dkwX7_isUsed_0 ++ dktX7_isUsed_1
theorem dksX7_isUsed_0 : cX7_isUsed.data.toList.drop 0 = dktX7_isUsed_0 := by decide +kernel
theorem dksX7_isUsed_1 : cX7_isUsed.data.toList.drop 24 = dktX7_isUsed_1 := dk_seg dksX7_isUsed_0 24 rfl rfl
theorem dX7_isUsed_0 : decode cX7_isUsed 0 = .ok (.aload_n 0, 1) := dk_42 (dk_at dksX7_isUsed_0 0 rfl rfl)
theorem dX7_isUsed_1 : decode cX7_isUsed 1 = .ok (.dup, 1) := dk_89 (dk_at dksX7_isUsed_0 1 rfl rfl)
theorem dX7_isUsed_2 : decode cX7_isUsed 2 = .ok (.getfield 22, 3) := dk_180 0 22 (dk_at dksX7_isUsed_0 2 rfl rfl)
theorem dX7_isUsed_5 : decode cX7_isUsed 5 = .ok (.iconst 1, 1) := dk_4 (dk_at dksX7_isUsed_0 5 rfl rfl)
theorem dX7_isUsed_6 : decode cX7_isUsed 6 = .ok (.iadd, 1) := dk_96 (dk_at dksX7_isUsed_0 6 rfl rfl)
theorem dX7_isUsed_7 : decode cX7_isUsed 7 = .ok (.putfield 22, 3) := dk_181 0 22 (dk_at dksX7_isUsed_0 7 rfl rfl)
theorem dX7_isUsed_10 : decode cX7_isUsed 10 = .ok (.aload_n 0, 1) := dk_42 (dk_at dksX7_isUsed_0 10 rfl rfl)
theorem dX7_isUsed_11 : decode cX7_isUsed 11 = .ok (.dup, 1) := dk_89 (dk_at dksX7_isUsed_0 11 rfl rfl)
theorem dX7_isUsed_12 : decode cX7_isUsed 12 = .ok (.getfield 19, 3) := dk_180 0 19 (dk_at dksX7_isUsed_0 12 rfl rfl)
theorem dX7_isUsed_15 : decode cX7_isUsed 15 = .ok (.aload_n 0, 1) := dk_42 (dk_at dksX7_isUsed_0 15 rfl rfl)
theorem dX7_isUsed_16 : decode cX7_isUsed 16 = .ok (.getfield 13, 3) := dk_180 0 13 (dk_at dksX7_isUsed_0 16 rfl rfl)
theorem dX7_isUsed_19 : decode cX7_isUsed 19 = .ok (.aload_n 0, 1) := dk_42 (dk_at dksX7_isUsed_0 19 rfl rfl)
theorem dX7_isUsed_20 : decode cX7_isUsed 20 = .ok (.getfield 22, 3) := dk_180 0 22 (dk_at dksX7_isUsed_0 20 rfl rfl)
theorem dX7_isUsed_23 : decode cX7_isUsed 23 = .ok (.iadd, 1) := dk_96 (dk_at dksX7_isUsed_0 23 rfl rfl)
theorem dX7_isUsed_24 : decode cX7_isUsed 24 = .ok (.iconst 4, 1) := dk_7 (dk_at dksX7_isUsed_1 0 rfl rfl)
theorem dX7_isUsed_25 : decode cX7_isUsed 25 = .ok (.irem, 1) := dk_112 (dk_at dksX7_isUsed_1 1 rfl rfl)
theorem dX7_isUsed_26 : decode cX7_isUsed 26 = .ok (.ifCond .ne 7, 3) := dk_154 0 7 (dk_at dksX7_isUsed_1 2 rfl rfl)
theorem dX7_isUsed_29 : decode cX7_isUsed 29 = .ok (.iconst 1, 1) := dk_4 (dk_at dksX7_isUsed_1 5 rfl rfl)
theorem dX7_isUsed_30 : decode cX7_isUsed 30 = .ok (.goto 4, 3) := dk_167 0 4 (dk_at dksX7_isUsed_1 6 rfl rfl)
theorem dX7_isUsed_33 : decode cX7_isUsed 33 = .ok (.iconst 0, 1) := dk_3 (dk_at dksX7_isUsed_1 9 rfl rfl)
theorem dX7_isUsed_34 : decode cX7_isUsed 34 = .ok (.iadd, 1) := dk_96 (dk_at dksX7_isUsed_1 10 rfl rfl)
theorem dX7_isUsed_35 : decode cX7_isUsed 35 = .ok (.putfield 19, 3) := dk_181 0 19 (dk_at dksX7_isUsed_1 11 rfl rfl)
theorem dX7_isUsed_38 : decode cX7_isUsed 38 = .ok (.return_, 1) := dk_177 (dk_at dksX7_isUsed_1 14 rfl rfl)
abbrev cX7_ounces : ByteArray := prog_8_method_4_code
def yX7_ounces : MethodName := ⟨RX7, "ounces", "()I"⟩
theorem dX7_ounces_0 : decode cX7_ounces 0 = .ok (.aload_n 0, 1) := by decide +kernel
theorem dX7_ounces_1 : decode cX7_ounces 1 = .ok (.getfield 13, 3) := by decide +kernel
theorem dX7_ounces_4 : decode cX7_ounces 4 = .ok (.ireturn, 1) := by decide +kernel
abbrev cX7_uses : ByteArray := prog_8_method_6_code
def yX7_uses : MethodName := ⟨RX7, "uses", "()I"⟩
theorem dX7_uses_0 : decode cX7_uses 0 = .ok (.aload_n 0, 1) := by decide +kernel
theorem dX7_uses_1 : decode cX7_uses 1 = .ok (.getfield 22, 3) := by decide +kernel
theorem dX7_uses_4 : decode cX7_uses 4 = .ok (.ireturn, 1) := by decide +kernel
abbrev cX7_isBetter : ByteArray := prog_8_method_9_code
def yX7_isBetter : MethodName := ⟨RX7, "isBetter", "(LBrassInspector$Brass;)Z"⟩
def dkwX7_isBetter_1 : List UInt8 := [167, 0, 4, 3, 172, 42, 180, 0, 13, 43, 180, 0, 13, 164, 0, 7, 4, 167, 0, 4, 3, 172]
abbrev dktX7_isBetter_1 : List UInt8 := dkwX7_isBetter_1 ++ []
def dkwX7_isBetter_0 : List UInt8 := [42, 180, 0, 19, 43, 180, 0, 19, 159, 0, 20, 42, 180, 0, 19, 43, 180, 0, 19, 162, 0, 7, 4]
abbrev dktX7_isBetter_0 : List UInt8 := dkwX7_isBetter_0 ++ dktX7_isBetter_1
theorem dksX7_isBetter_0 : cX7_isBetter.data.toList.drop 0 = dktX7_isBetter_0 := by decide +kernel
theorem dksX7_isBetter_1 : cX7_isBetter.data.toList.drop 23 = dktX7_isBetter_1 := dk_seg dksX7_isBetter_0 23 rfl rfl
theorem dX7_isBetter_0 : decode cX7_isBetter 0 = .ok (.aload_n 0, 1) := dk_42 (dk_at dksX7_isBetter_0 0 rfl rfl)
theorem dX7_isBetter_1 : decode cX7_isBetter 1 = .ok (.getfield 19, 3) := dk_180 0 19 (dk_at dksX7_isBetter_0 1 rfl rfl)
theorem dX7_isBetter_4 : decode cX7_isBetter 4 = .ok (.aload_n 1, 1) := dk_43 (dk_at dksX7_isBetter_0 4 rfl rfl)
theorem dX7_isBetter_5 : decode cX7_isBetter 5 = .ok (.getfield 19, 3) := dk_180 0 19 (dk_at dksX7_isBetter_0 5 rfl rfl)
theorem dX7_isBetter_8 : decode cX7_isBetter 8 = .ok (.if_icmp .eq 20, 3) := dk_159 0 20 (dk_at dksX7_isBetter_0 8 rfl rfl)
theorem dX7_isBetter_11 : decode cX7_isBetter 11 = .ok (.aload_n 0, 1) := dk_42 (dk_at dksX7_isBetter_0 11 rfl rfl)
theorem dX7_isBetter_12 : decode cX7_isBetter 12 = .ok (.getfield 19, 3) := dk_180 0 19 (dk_at dksX7_isBetter_0 12 rfl rfl)
theorem dX7_isBetter_15 : decode cX7_isBetter 15 = .ok (.aload_n 1, 1) := dk_43 (dk_at dksX7_isBetter_0 15 rfl rfl)
theorem dX7_isBetter_16 : decode cX7_isBetter 16 = .ok (.getfield 19, 3) := dk_180 0 19 (dk_at dksX7_isBetter_0 16 rfl rfl)
theorem dX7_isBetter_19 : decode cX7_isBetter 19 = .ok (.if_icmp .ge 7, 3) := dk_162 0 7 (dk_at dksX7_isBetter_0 19 rfl rfl)
theorem dX7_isBetter_22 : decode cX7_isBetter 22 = .ok (.iconst 1, 1) := dk_4 (dk_at dksX7_isBetter_0 22 rfl rfl)
theorem dX7_isBetter_23 : decode cX7_isBetter 23 = .ok (.goto 4, 3) := dk_167 0 4 (dk_at dksX7_isBetter_1 0 rfl rfl)
theorem dX7_isBetter_26 : decode cX7_isBetter 26 = .ok (.iconst 0, 1) := dk_3 (dk_at dksX7_isBetter_1 3 rfl rfl)
theorem dX7_isBetter_27 : decode cX7_isBetter 27 = .ok (.ireturn, 1) := dk_172 (dk_at dksX7_isBetter_1 4 rfl rfl)
theorem dX7_isBetter_28 : decode cX7_isBetter 28 = .ok (.aload_n 0, 1) := dk_42 (dk_at dksX7_isBetter_1 5 rfl rfl)
theorem dX7_isBetter_29 : decode cX7_isBetter 29 = .ok (.getfield 13, 3) := dk_180 0 13 (dk_at dksX7_isBetter_1 6 rfl rfl)
theorem dX7_isBetter_32 : decode cX7_isBetter 32 = .ok (.aload_n 1, 1) := dk_43 (dk_at dksX7_isBetter_1 9 rfl rfl)
theorem dX7_isBetter_33 : decode cX7_isBetter 33 = .ok (.getfield 13, 3) := dk_180 0 13 (dk_at dksX7_isBetter_1 10 rfl rfl)
theorem dX7_isBetter_36 : decode cX7_isBetter 36 = .ok (.if_icmp .le 7, 3) := dk_164 0 7 (dk_at dksX7_isBetter_1 13 rfl rfl)
theorem dX7_isBetter_39 : decode cX7_isBetter 39 = .ok (.iconst 1, 1) := dk_4 (dk_at dksX7_isBetter_1 16 rfl rfl)
theorem dX7_isBetter_40 : decode cX7_isBetter 40 = .ok (.goto 4, 3) := dk_167 0 4 (dk_at dksX7_isBetter_1 17 rfl rfl)
theorem dX7_isBetter_43 : decode cX7_isBetter 43 = .ok (.iconst 0, 1) := dk_3 (dk_at dksX7_isBetter_1 20 rfl rfl)
theorem dX7_isBetter_44 : decode cX7_isBetter 44 = .ok (.ireturn, 1) := dk_172 (dk_at dksX7_isBetter_1 21 rfl rfl)
abbrev cX7_number : ByteArray := prog_8_method_3_code
def yX7_number : MethodName := ⟨RX7, "number", "()I"⟩
theorem dX7_number_0 : decode cX7_number 0 = .ok (.aload_n 0, 1) := by decide +kernel
theorem dX7_number_1 : decode cX7_number 1 = .ok (.getfield 7, 3) := by decide +kernel
theorem dX7_number_4 : decode cX7_number 4 = .ok (.ireturn, 1) := by decide +kernel
