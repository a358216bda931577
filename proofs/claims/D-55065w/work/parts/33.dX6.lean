/-! code and decode rows of X6 (claim/names) -/
set_option maxRecDepth 100000
abbrev cX6_fair : ByteArray := prog_17_method_4_code
def yX6_fair : MethodName := ⟨RX6, "fair", "()I"⟩
theorem dX6_fair_0 : decode cX6_fair 0 = .ok (.aload_n 0, 1) := by decide +kernel
theorem dX6_fair_1 : decode cX6_fair 1 = .ok (.getfield 25, 3) := by decide +kernel
theorem dX6_fair_4 : decode cX6_fair 4 = .ok (.ireturn, 1) := by decide +kernel
abbrev cX6_init : ByteArray := prog_17_method_2_code
def yX6_init : MethodName := ⟨RX6, "<init>", "(LBrassInspector$Round;LBrassInspector$Round$Trader;)V"⟩
def dkwX6_init_2 : List UInt8 := [180, 0, 43, 181, 0, 43, 42, 44, 180, 0, 46, 181, 0, 46, 42, 44, 180, 0, 19, 181, 0, 19, 177]
abbrev dktX6_init_2 : List UInt8 := dkwX6_init_2 ++ []
def dkwX6_init_1 : List UInt8 := [180, 0, 37, 181, 0, 37, 42, 44, 180, 0, 40, 181, 0, 40, 42, 44, 180, 0, 15, 181, 0, 15, 42, 44]
abbrev dktX6_init_1 : List UInt8 := dkwX6_init_1 ++ dktX6_init_2
def dkwX6_init_0 : List UInt8 := [42, 43, 44, 180, 0, 22, 44, 180, 0, 25, 44, 180, 0, 28, 44, 180, 0, 31, 183, 0, 34, 42, 44]
abbrev dktX6_init_0 : List UInt8 := dkwX6_init_0 ++ dktX6_init_1
theorem dksX6_init_0 : cX6_init.data.toList.drop 0 = dktX6_init_0 := by decide +kernel
theorem dksX6_init_1 : cX6_init.data.toList.drop 23 = dktX6_init_1 := dk_seg dksX6_init_0 23 rfl rfl
theorem dksX6_init_2 : cX6_init.data.toList.drop 47 = dktX6_init_2 := dk_seg dksX6_init_1 24 rfl rfl
theorem dX6_init_0 : decode cX6_init 0 = .ok (.aload_n 0, 1) := dk_42 (dk_at dksX6_init_0 0 rfl rfl)
theorem dX6_init_1 : decode cX6_init 1 = .ok (.aload_n 1, 1) := dk_43 (dk_at dksX6_init_0 1 rfl rfl)
theorem dX6_init_2 : decode cX6_init 2 = .ok (.aload_n 2, 1) := dk_44 (dk_at dksX6_init_0 2 rfl rfl)
theorem dX6_init_3 : decode cX6_init 3 = .ok (.getfield 22, 3) := dk_180 0 22 (dk_at dksX6_init_0 3 rfl rfl)
theorem dX6_init_6 : decode cX6_init 6 = .ok (.aload_n 2, 1) := dk_44 (dk_at dksX6_init_0 6 rfl rfl)
theorem dX6_init_7 : decode cX6_init 7 = .ok (.getfield 25, 3) := dk_180 0 25 (dk_at dksX6_init_0 7 rfl rfl)
theorem dX6_init_10 : decode cX6_init 10 = .ok (.aload_n 2, 1) := dk_44 (dk_at dksX6_init_0 10 rfl rfl)
theorem dX6_init_11 : decode cX6_init 11 = .ok (.getfield 28, 3) := dk_180 0 28 (dk_at dksX6_init_0 11 rfl rfl)
theorem dX6_init_14 : decode cX6_init 14 = .ok (.aload_n 2, 1) := dk_44 (dk_at dksX6_init_0 14 rfl rfl)
theorem dX6_init_15 : decode cX6_init 15 = .ok (.getfield 31, 3) := dk_180 0 31 (dk_at dksX6_init_0 15 rfl rfl)
theorem dX6_init_18 : decode cX6_init 18 = .ok (.invokespecial 34, 3) := dk_183 0 34 (dk_at dksX6_init_0 18 rfl rfl)
theorem dX6_init_21 : decode cX6_init 21 = .ok (.aload_n 0, 1) := dk_42 (dk_at dksX6_init_0 21 rfl rfl)
theorem dX6_init_22 : decode cX6_init 22 = .ok (.aload_n 2, 1) := dk_44 (dk_at dksX6_init_0 22 rfl rfl)
theorem dX6_init_23 : decode cX6_init 23 = .ok (.getfield 37, 3) := dk_180 0 37 (dk_at dksX6_init_1 0 rfl rfl)
theorem dX6_init_26 : decode cX6_init 26 = .ok (.putfield 37, 3) := dk_181 0 37 (dk_at dksX6_init_1 3 rfl rfl)
theorem dX6_init_29 : decode cX6_init 29 = .ok (.aload_n 0, 1) := dk_42 (dk_at dksX6_init_1 6 rfl rfl)
theorem dX6_init_30 : decode cX6_init 30 = .ok (.aload_n 2, 1) := dk_44 (dk_at dksX6_init_1 7 rfl rfl)
theorem dX6_init_31 : decode cX6_init 31 = .ok (.getfield 40, 3) := dk_180 0 40 (dk_at dksX6_init_1 8 rfl rfl)
theorem dX6_init_34 : decode cX6_init 34 = .ok (.putfield 40, 3) := dk_181 0 40 (dk_at dksX6_init_1 11 rfl rfl)
theorem dX6_init_37 : decode cX6_init 37 = .ok (.aload_n 0, 1) := dk_42 (dk_at dksX6_init_1 14 rfl rfl)
theorem dX6_init_38 : decode cX6_init 38 = .ok (.aload_n 2, 1) := dk_44 (dk_at dksX6_init_1 15 rfl rfl)
theorem dX6_init_39 : decode cX6_init 39 = .ok (.getfield 15, 3) := dk_180 0 15 (dk_at dksX6_init_1 16 rfl rfl)
theorem dX6_init_42 : decode cX6_init 42 = .ok (.putfield 15, 3) := dk_181 0 15 (dk_at dksX6_init_1 19 rfl rfl)
theorem dX6_init_45 : decode cX6_init 45 = .ok (.aload_n 0, 1) := dk_42 (dk_at dksX6_init_1 22 rfl rfl)
theorem dX6_init_46 : decode cX6_init 46 = .ok (.aload_n 2, 1) := dk_44 (dk_at dksX6_init_1 23 rfl rfl)
theorem dX6_init_47 : decode cX6_init 47 = .ok (.getfield 43, 3) := dk_180 0 43 (dk_at dksX6_init_2 0 rfl rfl)
theorem dX6_init_50 : decode cX6_init 50 = .ok (.putfield 43, 3) := dk_181 0 43 (dk_at dksX6_init_2 3 rfl rfl)
theorem dX6_init_53 : decode cX6_init 53 = .ok (.aload_n 0, 1) := dk_42 (dk_at dksX6_init_2 6 rfl rfl)
theorem dX6_init_54 : decode cX6_init 54 = .ok (.aload_n 2, 1) := dk_44 (dk_at dksX6_init_2 7 rfl rfl)
theorem dX6_init_55 : decode cX6_init 55 = .ok (.getfield 46, 3) := dk_180 0 46 (dk_at dksX6_init_2 8 rfl rfl)
theorem dX6_init_58 : decode cX6_init 58 = .ok (.putfield 46, 3) := dk_181 0 46 (dk_at dksX6_init_2 11 rfl rfl)
theorem dX6_init_61 : decode cX6_init 61 = .ok (.aload_n 0, 1) := dk_42 (dk_at dksX6_init_2 14 rfl rfl)
theorem dX6_init_62 : decode cX6_init 62 = .ok (.aload_n 2, 1) := dk_44 (dk_at dksX6_init_2 15 rfl rfl)
theorem dX6_init_63 : decode cX6_init 63 = .ok (.getfield 19, 3) := dk_180 0 19 (dk_at dksX6_init_2 16 rfl rfl)
theorem dX6_init_66 : decode cX6_init 66 = .ok (.putfield 19, 3) := dk_181 0 19 (dk_at dksX6_init_2 19 rfl rfl)
theorem dX6_init_69 : decode cX6_init 69 = .ok (.return_, 1) := dk_177 (dk_at dksX6_init_2 22 rfl rfl)
abbrev cX6_init_2 : ByteArray := prog_17_method_1_code
def yX6_init_2 : MethodName := ⟨RX6, "<init>", "(LBrassInspector$Round;IIII)V"⟩
def dkwX6_init_2_1 : List UInt8 := [42, 29, 181, 0, 25, 42, 21, 4, 181, 0, 28, 42, 21, 5, 181, 0, 31, 177]
abbrev dktX6_init_2_1 : List UInt8 := dkwX6_init_2_1 ++ []
def dkwX6_init_2_0 : List UInt8 := [42, 43, 181, 0, 3, 42, 183, 0, 9, 42, 2, 181, 0, 15, 42, 2, 181, 0, 19, 42, 28, 181, 0, 22]
abbrev dktX6_init_2_0 : List UInt8 := dkwX6_init_2_0 ++ dktX6_init_2_1
theorem dksX6_init_2_0 : cX6_init_2.data.toList.drop 0 = dktX6_init_2_0 := by decide +kernel
theorem dksX6_init_2_1 : cX6_init_2.data.toList.drop 24 = dktX6_init_2_1 := dk_seg dksX6_init_2_0 24 rfl rfl
theorem dX6_init_2_0 : decode cX6_init_2 0 = .ok (.aload_n 0, 1) := dk_42 (dk_at dksX6_init_2_0 0 rfl rfl)
theorem dX6_init_2_1 : decode cX6_init_2 1 = .ok (.aload_n 1, 1) := dk_43 (dk_at dksX6_init_2_0 1 rfl rfl)
theorem dX6_init_2_2 : decode cX6_init_2 2 = .ok (.putfield 3, 3) := dk_181 0 3 (dk_at dksX6_init_2_0 2 rfl rfl)
theorem dX6_init_2_5 : decode cX6_init_2 5 = .ok (.aload_n 0, 1) := dk_42 (dk_at dksX6_init_2_0 5 rfl rfl)
theorem dX6_init_2_6 : decode cX6_init_2 6 = .ok (.invokespecial 9, 3) := dk_183 0 9 (dk_at dksX6_init_2_0 6 rfl rfl)
theorem dX6_init_2_9 : decode cX6_init_2 9 = .ok (.aload_n 0, 1) := dk_42 (dk_at dksX6_init_2_0 9 rfl rfl)
theorem dX6_init_2_10 : decode cX6_init_2 10 = .ok (.iconst (-1), 1) := dk_2 (dk_at dksX6_init_2_0 10 rfl rfl)
theorem dX6_init_2_11 : decode cX6_init_2 11 = .ok (.putfield 15, 3) := dk_181 0 15 (dk_at dksX6_init_2_0 11 rfl rfl)
theorem dX6_init_2_14 : decode cX6_init_2 14 = .ok (.aload_n 0, 1) := dk_42 (dk_at dksX6_init_2_0 14 rfl rfl)
theorem dX6_init_2_15 : decode cX6_init_2 15 = .ok (.iconst (-1), 1) := dk_2 (dk_at dksX6_init_2_0 15 rfl rfl)
theorem dX6_init_2_16 : decode cX6_init_2 16 = .ok (.putfield 19, 3) := dk_181 0 19 (dk_at dksX6_init_2_0 16 rfl rfl)
theorem dX6_init_2_19 : decode cX6_init_2 19 = .ok (.aload_n 0, 1) := dk_42 (dk_at dksX6_init_2_0 19 rfl rfl)
theorem dX6_init_2_20 : decode cX6_init_2 20 = .ok (.iload_n 2, 1) := dk_28 (dk_at dksX6_init_2_0 20 rfl rfl)
theorem dX6_init_2_21 : decode cX6_init_2 21 = .ok (.putfield 22, 3) := dk_181 0 22 (dk_at dksX6_init_2_0 21 rfl rfl)
theorem dX6_init_2_24 : decode cX6_init_2 24 = .ok (.aload_n 0, 1) := dk_42 (dk_at dksX6_init_2_1 0 rfl rfl)
theorem dX6_init_2_25 : decode cX6_init_2 25 = .ok (.iload_n 3, 1) := dk_29 (dk_at dksX6_init_2_1 1 rfl rfl)
theorem dX6_init_2_26 : decode cX6_init_2 26 = .ok (.putfield 25, 3) := dk_181 0 25 (dk_at dksX6_init_2_1 2 rfl rfl)
theorem dX6_init_2_29 : decode cX6_init_2 29 = .ok (.aload_n 0, 1) := dk_42 (dk_at dksX6_init_2_1 5 rfl rfl)
theorem dX6_init_2_30 : decode cX6_init_2 30 = .ok (.iload 4, 2) := dk_21 4 (dk_at dksX6_init_2_1 6 rfl rfl)
theorem dX6_init_2_32 : decode cX6_init_2 32 = .ok (.putfield 28, 3) := dk_181 0 28 (dk_at dksX6_init_2_1 8 rfl rfl)
theorem dX6_init_2_35 : decode cX6_init_2 35 = .ok (.aload_n 0, 1) := dk_42 (dk_at dksX6_init_2_1 11 rfl rfl)
theorem dX6_init_2_36 : decode cX6_init_2 36 = .ok (.iload 5, 2) := dk_21 5 (dk_at dksX6_init_2_1 12 rfl rfl)
theorem dX6_init_2_38 : decode cX6_init_2 38 = .ok (.putfield 31, 3) := dk_181 0 31 (dk_at dksX6_init_2_1 14 rfl rfl)
theorem dX6_init_2_41 : decode cX6_init_2 41 = .ok (.return_, 1) := dk_177 (dk_at dksX6_init_2_1 17 rfl rfl)
abbrev cX6_gets : ByteArray := prog_17_method_18_code
def yX6_gets : MethodName := ⟨RX6, "gets", "(I)I"⟩
def dkwX6_gets_0 : List UInt8 := [42, 17, 3, 231, 42, 180, 0, 28, 27, 96, 184, 0, 58, 181, 0, 28, 42, 180, 0, 28, 172]
abbrev dktX6_gets_0 : List UInt8 := dkwX6_gets_0 ++ []
theorem dksX6_gets_0 : cX6_gets.data.toList.drop 0 = dktX6_gets_0 := by decide +kernel
theorem dX6_gets_0 : decode cX6_gets 0 = .ok (.aload_n 0, 1) := dk_42 (dk_at dksX6_gets_0 0 rfl rfl)
theorem dX6_gets_1 : decode cX6_gets 1 = .ok (.sipush 999, 3) := dk_17 3 231 (dk_at dksX6_gets_0 1 rfl rfl)
theorem dX6_gets_4 : decode cX6_gets 4 = .ok (.aload_n 0, 1) := dk_42 (dk_at dksX6_gets_0 4 rfl rfl)
theorem dX6_gets_5 : decode cX6_gets 5 = .ok (.getfield 28, 3) := dk_180 0 28 (dk_at dksX6_gets_0 5 rfl rfl)
theorem dX6_gets_8 : decode cX6_gets 8 = .ok (.iload_n 1, 1) := dk_27 (dk_at dksX6_gets_0 8 rfl rfl)
theorem dX6_gets_9 : decode cX6_gets 9 = .ok (.iadd, 1) := dk_96 (dk_at dksX6_gets_0 9 rfl rfl)
theorem dX6_gets_10 : decode cX6_gets 10 = .ok (.invokestatic 58, 3) := dk_184 0 58 (dk_at dksX6_gets_0 10 rfl rfl)
theorem dX6_gets_13 : decode cX6_gets 13 = .ok (.putfield 28, 3) := dk_181 0 28 (dk_at dksX6_gets_0 13 rfl rfl)
theorem dX6_gets_16 : decode cX6_gets 16 = .ok (.aload_n 0, 1) := dk_42 (dk_at dksX6_gets_0 16 rfl rfl)
theorem dX6_gets_17 : decode cX6_gets 17 = .ok (.getfield 28, 3) := dk_180 0 28 (dk_at dksX6_gets_0 17 rfl rfl)
theorem dX6_gets_20 : decode cX6_gets 20 = .ok (.ireturn, 1) := dk_172 (dk_at dksX6_gets_0 20 rfl rfl)
abbrev cX6_isBarred : ByteArray := prog_17_method_17_code
def yX6_isBarred : MethodName := ⟨RX6, "isBarred", "()Z"⟩
def dkwX6_isBarred_0 : List UInt8 := [42, 180, 0, 37, 16, 30, 164, 0, 7, 4, 167, 0, 4, 3, 172]
abbrev dktX6_isBarred_0 : List UInt8 := dkwX6_isBarred_0 ++ []
theorem dksX6_isBarred_0 : cX6_isBarred.data.toList.drop 0 = dktX6_isBarred_0 := by decide +kernel
theorem dX6_isBarred_0 : decode cX6_isBarred 0 = .ok (.aload_n 0, 1) := dk_42 (dk_at dksX6_isBarred_0 0 rfl rfl)
theorem dX6_isBarred_1 : decode cX6_isBarred 1 = .ok (.getfield 37, 3) := dk_180 0 37 (dk_at dksX6_isBarred_0 1 rfl rfl)
theorem dX6_isBarred_4 : decode cX6_isBarred 4 = .ok (.bipush 30, 2) := dk_16 30 (dk_at dksX6_isBarred_0 4 rfl rfl)
theorem dX6_isBarred_6 : decode cX6_isBarred 6 = .ok (.if_icmp .le 7, 3) := dk_164 0 7 (dk_at dksX6_isBarred_0 6 rfl rfl)
theorem dX6_isBarred_9 : decode cX6_isBarred 9 = .ok (.iconst 1, 1) := dk_4 (dk_at dksX6_isBarred_0 9 rfl rfl)
theorem dX6_isBarred_10 : decode cX6_isBarred 10 = .ok (.goto 4, 3) := dk_167 0 4 (dk_at dksX6_isBarred_0 10 rfl rfl)
theorem dX6_isBarred_13 : decode cX6_isBarred 13 = .ok (.iconst 0, 1) := dk_3 (dk_at dksX6_isBarred_0 13 rfl rfl)
theorem dX6_isBarred_14 : decode cX6_isBarred 14 = .ok (.ireturn, 1) := dk_172 (dk_at dksX6_isBarred_0 14 rfl rfl)
abbrev cX6_sells : ByteArray := prog_17_method_27_code
def yX6_sells : MethodName := ⟨RX6, "sells", "()I"⟩
def dkwX6_sells_2 : List UInt8 := [100, 181, 0, 37, 42, 27, 28, 100, 182, 0, 94, 87, 42, 182, 0, 98, 172]
abbrev dktX6_sells_2 : List UInt8 := dkwX6_sells_2 ++ []
def dkwX6_sells_1 : List UInt8 := [16, 10, 79, 184, 0, 77, 60, 27, 5, 108, 42, 180, 0, 37, 184, 0, 58, 61, 42, 89, 180, 0, 37, 28]
abbrev dktX6_sells_1 : List UInt8 := dkwX6_sells_1 ++ dktX6_sells_2
def dkwX6_sells_0 : List UInt8 := [6, 188, 10, 89, 3, 16, 20, 79, 89, 4, 178, 0, 91, 16, 50, 42, 180, 0, 40, 96, 46, 79, 89, 5]
abbrev dktX6_sells_0 : List UInt8 := dkwX6_sells_0 ++ dktX6_sells_1
theorem dksX6_sells_0 : cX6_sells.data.toList.drop 0 = dktX6_sells_0 := by decide +kernel
theorem dksX6_sells_1 : cX6_sells.data.toList.drop 24 = dktX6_sells_1 := dk_seg dksX6_sells_0 24 rfl rfl
theorem dksX6_sells_2 : cX6_sells.data.toList.drop 48 = dktX6_sells_2 := dk_seg dksX6_sells_1 24 rfl rfl
theorem dX6_sells_0 : decode cX6_sells 0 = .ok (.iconst 3, 1) := dk_6 (dk_at dksX6_sells_0 0 rfl rfl)
theorem dX6_sells_1 : decode cX6_sells 1 = .ok (.newarray .int, 2) := dk_188_10 (dk_at dksX6_sells_0 1 rfl rfl)
theorem dX6_sells_3 : decode cX6_sells 3 = .ok (.dup, 1) := dk_89 (dk_at dksX6_sells_0 3 rfl rfl)
theorem dX6_sells_4 : decode cX6_sells 4 = .ok (.iconst 0, 1) := dk_3 (dk_at dksX6_sells_0 4 rfl rfl)
theorem dX6_sells_5 : decode cX6_sells 5 = .ok (.bipush 20, 2) := dk_16 20 (dk_at dksX6_sells_0 5 rfl rfl)
theorem dX6_sells_7 : decode cX6_sells 7 = .ok (.iastore, 1) := dk_79 (dk_at dksX6_sells_0 7 rfl rfl)
theorem dX6_sells_8 : decode cX6_sells 8 = .ok (.dup, 1) := dk_89 (dk_at dksX6_sells_0 8 rfl rfl)
theorem dX6_sells_9 : decode cX6_sells 9 = .ok (.iconst 1, 1) := dk_4 (dk_at dksX6_sells_0 9 rfl rfl)
theorem dX6_sells_10 : decode cX6_sells 10 = .ok (.getstatic 91, 3) := dk_178 0 91 (dk_at dksX6_sells_0 10 rfl rfl)
theorem dX6_sells_13 : decode cX6_sells 13 = .ok (.bipush 50, 2) := dk_16 50 (dk_at dksX6_sells_0 13 rfl rfl)
theorem dX6_sells_15 : decode cX6_sells 15 = .ok (.aload_n 0, 1) := dk_42 (dk_at dksX6_sells_0 15 rfl rfl)
theorem dX6_sells_16 : decode cX6_sells 16 = .ok (.getfield 40, 3) := dk_180 0 40 (dk_at dksX6_sells_0 16 rfl rfl)
theorem dX6_sells_19 : decode cX6_sells 19 = .ok (.iadd, 1) := dk_96 (dk_at dksX6_sells_0 19 rfl rfl)
theorem dX6_sells_20 : decode cX6_sells 20 = .ok (.iaload, 1) := dk_46 (dk_at dksX6_sells_0 20 rfl rfl)
theorem dX6_sells_21 : decode cX6_sells 21 = .ok (.iastore, 1) := dk_79 (dk_at dksX6_sells_0 21 rfl rfl)
theorem dX6_sells_22 : decode cX6_sells 22 = .ok (.dup, 1) := dk_89 (dk_at dksX6_sells_0 22 rfl rfl)
theorem dX6_sells_23 : decode cX6_sells 23 = .ok (.iconst 2, 1) := dk_5 (dk_at dksX6_sells_0 23 rfl rfl)
theorem dX6_sells_24 : decode cX6_sells 24 = .ok (.bipush 10, 2) := dk_16 10 (dk_at dksX6_sells_1 0 rfl rfl)
theorem dX6_sells_26 : decode cX6_sells 26 = .ok (.iastore, 1) := dk_79 (dk_at dksX6_sells_1 2 rfl rfl)
theorem dX6_sells_27 : decode cX6_sells 27 = .ok (.invokestatic 77, 3) := dk_184 0 77 (dk_at dksX6_sells_1 3 rfl rfl)
theorem dX6_sells_30 : decode cX6_sells 30 = .ok (.istore_n 1, 1) := dk_60 (dk_at dksX6_sells_1 6 rfl rfl)
theorem dX6_sells_31 : decode cX6_sells 31 = .ok (.iload_n 1, 1) := dk_27 (dk_at dksX6_sells_1 7 rfl rfl)
theorem dX6_sells_32 : decode cX6_sells 32 = .ok (.iconst 2, 1) := dk_5 (dk_at dksX6_sells_1 8 rfl rfl)
theorem dX6_sells_33 : decode cX6_sells 33 = .ok (.idiv, 1) := dk_108 (dk_at dksX6_sells_1 9 rfl rfl)
theorem dX6_sells_34 : decode cX6_sells 34 = .ok (.aload_n 0, 1) := dk_42 (dk_at dksX6_sells_1 10 rfl rfl)
theorem dX6_sells_35 : decode cX6_sells 35 = .ok (.getfield 37, 3) := dk_180 0 37 (dk_at dksX6_sells_1 11 rfl rfl)
theorem dX6_sells_38 : decode cX6_sells 38 = .ok (.invokestatic 58, 3) := dk_184 0 58 (dk_at dksX6_sells_1 14 rfl rfl)
theorem dX6_sells_41 : decode cX6_sells 41 = .ok (.istore_n 2, 1) := dk_61 (dk_at dksX6_sells_1 17 rfl rfl)
theorem dX6_sells_42 : decode cX6_sells 42 = .ok (.aload_n 0, 1) := dk_42 (dk_at dksX6_sells_1 18 rfl rfl)
theorem dX6_sells_43 : decode cX6_sells 43 = .ok (.dup, 1) := dk_89 (dk_at dksX6_sells_1 19 rfl rfl)
theorem dX6_sells_44 : decode cX6_sells 44 = .ok (.getfield 37, 3) := dk_180 0 37 (dk_at dksX6_sells_1 20 rfl rfl)
theorem dX6_sells_47 : decode cX6_sells 47 = .ok (.iload_n 2, 1) := dk_28 (dk_at dksX6_sells_1 23 rfl rfl)
theorem dX6_sells_48 : decode cX6_sells 48 = .ok (.isub, 1) := dk_100 (dk_at dksX6_sells_2 0 rfl rfl)
theorem dX6_sells_49 : decode cX6_sells 49 = .ok (.putfield 37, 3) := dk_181 0 37 (dk_at dksX6_sells_2 1 rfl rfl)
theorem dX6_sells_52 : decode cX6_sells 52 = .ok (.aload_n 0, 1) := dk_42 (dk_at dksX6_sells_2 4 rfl rfl)
theorem dX6_sells_53 : decode cX6_sells 53 = .ok (.iload_n 1, 1) := dk_27 (dk_at dksX6_sells_2 5 rfl rfl)
theorem dX6_sells_54 : decode cX6_sells 54 = .ok (.iload_n 2, 1) := dk_28 (dk_at dksX6_sells_2 6 rfl rfl)
theorem dX6_sells_55 : decode cX6_sells 55 = .ok (.isub, 1) := dk_100 (dk_at dksX6_sells_2 7 rfl rfl)
theorem dX6_sells_56 : decode cX6_sells 56 = .ok (.invokevirtual 94, 3) := dk_182 0 94 (dk_at dksX6_sells_2 8 rfl rfl)
theorem dX6_sells_59 : decode cX6_sells 59 = .ok (.pop, 1) := dk_87 (dk_at dksX6_sells_2 11 rfl rfl)
theorem dX6_sells_60 : decode cX6_sells 60 = .ok (.aload_n 0, 1) := dk_42 (dk_at dksX6_sells_2 12 rfl rfl)
theorem dX6_sells_61 : decode cX6_sells 61 = .ok (.invokevirtual 98, 3) := dk_182 0 98 (dk_at dksX6_sells_2 13 rfl rfl)
theorem dX6_sells_64 : decode cX6_sells 64 = .ok (.ireturn, 1) := dk_172 (dk_at dksX6_sells_2 16 rfl rfl)
abbrev cX6_lossNow : ByteArray := prog_17_method_25_code
def yX6_lossNow : MethodName := ⟨RX6, "lossNow", "()I"⟩
def dkwX6_lossNow_1 : List UInt8 := [108, 79, 184, 0, 77, 172]
abbrev dktX6_lossNow_1 : List UInt8 := dkwX6_lossNow_1 ++ []
def dkwX6_lossNow_0 : List UInt8 := [5, 188, 10, 89, 3, 178, 0, 91, 16, 50, 42, 180, 0, 40, 96, 46, 79, 89, 4, 42, 180, 0, 43, 8]
abbrev dktX6_lossNow_0 : List UInt8 := dkwX6_lossNow_0 ++ dktX6_lossNow_1
theorem dksX6_lossNow_0 : cX6_lossNow.data.toList.drop 0 = dktX6_lossNow_0 := by decide +kernel
theorem dksX6_lossNow_1 : cX6_lossNow.data.toList.drop 24 = dktX6_lossNow_1 := dk_seg dksX6_lossNow_0 24 rfl rfl
theorem dX6_lossNow_0 : decode cX6_lossNow 0 = .ok (.iconst 2, 1) := dk_5 (dk_at dksX6_lossNow_0 0 rfl rfl)
theorem dX6_lossNow_1 : decode cX6_lossNow 1 = .ok (.newarray .int, 2) := dk_188_10 (dk_at dksX6_lossNow_0 1 rfl rfl)
theorem dX6_lossNow_3 : decode cX6_lossNow 3 = .ok (.dup, 1) := dk_89 (dk_at dksX6_lossNow_0 3 rfl rfl)
theorem dX6_lossNow_4 : decode cX6_lossNow 4 = .ok (.iconst 0, 1) := dk_3 (dk_at dksX6_lossNow_0 4 rfl rfl)
theorem dX6_lossNow_5 : decode cX6_lossNow 5 = .ok (.getstatic 91, 3) := dk_178 0 91 (dk_at dksX6_lossNow_0 5 rfl rfl)
theorem dX6_lossNow_8 : decode cX6_lossNow 8 = .ok (.bipush 50, 2) := dk_16 50 (dk_at dksX6_lossNow_0 8 rfl rfl)
theorem dX6_lossNow_10 : decode cX6_lossNow 10 = .ok (.aload_n 0, 1) := dk_42 (dk_at dksX6_lossNow_0 10 rfl rfl)
theorem dX6_lossNow_11 : decode cX6_lossNow 11 = .ok (.getfield 40, 3) := dk_180 0 40 (dk_at dksX6_lossNow_0 11 rfl rfl)
theorem dX6_lossNow_14 : decode cX6_lossNow 14 = .ok (.iadd, 1) := dk_96 (dk_at dksX6_lossNow_0 14 rfl rfl)
theorem dX6_lossNow_15 : decode cX6_lossNow 15 = .ok (.iaload, 1) := dk_46 (dk_at dksX6_lossNow_0 15 rfl rfl)
theorem dX6_lossNow_16 : decode cX6_lossNow 16 = .ok (.iastore, 1) := dk_79 (dk_at dksX6_lossNow_0 16 rfl rfl)
theorem dX6_lossNow_17 : decode cX6_lossNow 17 = .ok (.dup, 1) := dk_89 (dk_at dksX6_lossNow_0 17 rfl rfl)
theorem dX6_lossNow_18 : decode cX6_lossNow 18 = .ok (.iconst 1, 1) := dk_4 (dk_at dksX6_lossNow_0 18 rfl rfl)
theorem dX6_lossNow_19 : decode cX6_lossNow 19 = .ok (.aload_n 0, 1) := dk_42 (dk_at dksX6_lossNow_0 19 rfl rfl)
theorem dX6_lossNow_20 : decode cX6_lossNow 20 = .ok (.getfield 43, 3) := dk_180 0 43 (dk_at dksX6_lossNow_0 20 rfl rfl)
theorem dX6_lossNow_23 : decode cX6_lossNow 23 = .ok (.iconst 5, 1) := dk_8 (dk_at dksX6_lossNow_0 23 rfl rfl)
theorem dX6_lossNow_24 : decode cX6_lossNow 24 = .ok (.idiv, 1) := dk_108 (dk_at dksX6_lossNow_1 0 rfl rfl)
theorem dX6_lossNow_25 : decode cX6_lossNow 25 = .ok (.iastore, 1) := dk_79 (dk_at dksX6_lossNow_1 1 rfl rfl)
theorem dX6_lossNow_26 : decode cX6_lossNow 26 = .ok (.invokestatic 77, 3) := dk_184 0 77 (dk_at dksX6_lossNow_1 2 rfl rfl)
theorem dX6_lossNow_29 : decode cX6_lossNow 29 = .ok (.ireturn, 1) := dk_172 (dk_at dksX6_lossNow_1 5 rfl rfl)
abbrev cX6_drifts : ByteArray := prog_17_method_28_code
def yX6_drifts : MethodName := ⟨RX6, "drifts", "()V"⟩
def dkwX6_drifts_0 : List UInt8 := [42, 16, 206, 16, 50, 42, 180, 0, 40, 42, 180, 0, 31, 96, 184, 0, 58, 184, 0, 101, 181, 0, 40, 177]
abbrev dktX6_drifts_0 : List UInt8 := dkwX6_drifts_0 ++ []
theorem dksX6_drifts_0 : cX6_drifts.data.toList.drop 0 = dktX6_drifts_0 := by decide +kernel
theorem dX6_drifts_0 : decode cX6_drifts 0 = .ok (.aload_n 0, 1) := dk_42 (dk_at dksX6_drifts_0 0 rfl rfl)
theorem dX6_drifts_1 : decode cX6_drifts 1 = .ok (.bipush (-50), 2) := dk_16 206 (dk_at dksX6_drifts_0 1 rfl rfl)
theorem dX6_drifts_3 : decode cX6_drifts 3 = .ok (.bipush 50, 2) := dk_16 50 (dk_at dksX6_drifts_0 3 rfl rfl)
theorem dX6_drifts_5 : decode cX6_drifts 5 = .ok (.aload_n 0, 1) := dk_42 (dk_at dksX6_drifts_0 5 rfl rfl)
theorem dX6_drifts_6 : decode cX6_drifts 6 = .ok (.getfield 40, 3) := dk_180 0 40 (dk_at dksX6_drifts_0 6 rfl rfl)
theorem dX6_drifts_9 : decode cX6_drifts 9 = .ok (.aload_n 0, 1) := dk_42 (dk_at dksX6_drifts_0 9 rfl rfl)
theorem dX6_drifts_10 : decode cX6_drifts 10 = .ok (.getfield 31, 3) := dk_180 0 31 (dk_at dksX6_drifts_0 10 rfl rfl)
theorem dX6_drifts_13 : decode cX6_drifts 13 = .ok (.iadd, 1) := dk_96 (dk_at dksX6_drifts_0 13 rfl rfl)
theorem dX6_drifts_14 : decode cX6_drifts 14 = .ok (.invokestatic 58, 3) := dk_184 0 58 (dk_at dksX6_drifts_0 14 rfl rfl)
theorem dX6_drifts_17 : decode cX6_drifts 17 = .ok (.invokestatic 101, 3) := dk_184 0 101 (dk_at dksX6_drifts_0 17 rfl rfl)
theorem dX6_drifts_20 : decode cX6_drifts 20 = .ok (.putfield 40, 3) := dk_181 0 40 (dk_at dksX6_drifts_0 20 rfl rfl)
theorem dX6_drifts_23 : decode cX6_drifts 23 = .ok (.return_, 1) := dk_177 (dk_at dksX6_drifts_0 23 rfl rfl)
abbrev cX6_sealAges : ByteArray := prog_17_method_29_code
def yX6_sealAges : MethodName := ⟨RX6, "sealAges", "()V"⟩
def dkwX6_sealAges_1 : List UInt8 := [161, 0, 7, 2, 167, 0, 7, 42, 180, 0, 15, 181, 0, 15, 177]
abbrev dktX6_sealAges_1 : List UInt8 := dkwX6_sealAges_1 ++ []
def dkwX6_sealAges_0 : List UInt8 := [42, 42, 182, 0, 104, 153, 0, 24, 42, 180, 0, 3, 180, 0, 49, 42, 180, 0, 15, 100, 16, 30]
abbrev dktX6_sealAges_0 : List UInt8 := dkwX6_sealAges_0 ++ dktX6_sealAges_1
theorem dksX6_sealAges_0 : cX6_sealAges.data.toList.drop 0 = dktX6_sealAges_0 := by decide +kernel
theorem dksX6_sealAges_1 : cX6_sealAges.data.toList.drop 22 = dktX6_sealAges_1 := dk_seg dksX6_sealAges_0 22 rfl rfl
theorem dX6_sealAges_0 : decode cX6_sealAges 0 = .ok (.aload_n 0, 1) := dk_42 (dk_at dksX6_sealAges_0 0 rfl rfl)
theorem dX6_sealAges_1 : decode cX6_sealAges 1 = .ok (.aload_n 0, 1) := dk_42 (dk_at dksX6_sealAges_0 1 rfl rfl)
theorem dX6_sealAges_2 : decode cX6_sealAges 2 = .ok (.invokevirtual 104, 3) := dk_182 0 104 (dk_at dksX6_sealAges_0 2 rfl rfl)
theorem dX6_sealAges_5 : decode cX6_sealAges 5 = .ok (.ifCond .eq 24, 3) := dk_153 0 24 (dk_at dksX6_sealAges_0 5 rfl rfl)
theorem dX6_sealAges_8 : decode cX6_sealAges 8 = .ok (.aload_n 0, 1) := dk_42 (dk_at dksX6_sealAges_0 8 rfl rfl)
theorem dX6_sealAges_9 : decode cX6_sealAges 9 = .ok (.getfield 3, 3) := dk_180 0 3 (dk_at dksX6_sealAges_0 9 rfl rfl)
theorem dX6_sealAges_12 : decode cX6_sealAges 12 = .ok (.getfield 49, 3) := dk_180 0 49 (dk_at dksX6_sealAges_0 12 rfl rfl)
theorem dX6_sealAges_15 : decode cX6_sealAges 15 = .ok (.aload_n 0, 1) := dk_42 (dk_at dksX6_sealAges_0 15 rfl rfl)
theorem dX6_sealAges_16 : decode cX6_sealAges 16 = .ok (.getfield 15, 3) := dk_180 0 15 (dk_at dksX6_sealAges_0 16 rfl rfl)
theorem dX6_sealAges_19 : decode cX6_sealAges 19 = .ok (.isub, 1) := dk_100 (dk_at dksX6_sealAges_0 19 rfl rfl)
theorem dX6_sealAges_20 : decode cX6_sealAges 20 = .ok (.bipush 30, 2) := dk_16 30 (dk_at dksX6_sealAges_0 20 rfl rfl)
theorem dX6_sealAges_22 : decode cX6_sealAges 22 = .ok (.if_icmp .lt 7, 3) := dk_161 0 7 (dk_at dksX6_sealAges_1 0 rfl rfl)
theorem dX6_sealAges_25 : decode cX6_sealAges 25 = .ok (.iconst (-1), 1) := dk_2 (dk_at dksX6_sealAges_1 3 rfl rfl)
theorem dX6_sealAges_26 : decode cX6_sealAges 26 = .ok (.goto 7, 3) := dk_167 0 7 (dk_at dksX6_sealAges_1 4 rfl rfl)
theorem dX6_sealAges_29 : decode cX6_sealAges 29 = .ok (.aload_n 0, 1) := dk_42 (dk_at dksX6_sealAges_1 7 rfl rfl)
theorem dX6_sealAges_30 : decode cX6_sealAges 30 = .ok (.getfield 15, 3) := dk_180 0 15 (dk_at dksX6_sealAges_1 8 rfl rfl)
theorem dX6_sealAges_33 : decode cX6_sealAges 33 = .ok (.putfield 15, 3) := dk_181 0 15 (dk_at dksX6_sealAges_1 11 rfl rfl)
theorem dX6_sealAges_36 : decode cX6_sealAges 36 = .ok (.return_, 1) := dk_177 (dk_at dksX6_sealAges_1 14 rfl rfl)
abbrev cX6_isSealed : ByteArray := prog_17_method_11_code
def yX6_isSealed : MethodName := ⟨RX6, "isSealed", "()Z"⟩
def dkwX6_isSealed_0 : List UInt8 := [42, 180, 0, 15, 2, 159, 0, 7, 4, 167, 0, 4, 3, 172]
abbrev dktX6_isSealed_0 : List UInt8 := dkwX6_isSealed_0 ++ []
theorem dksX6_isSealed_0 : cX6_isSealed.data.toList.drop 0 = dktX6_isSealed_0 := by decide +kernel
theorem dX6_isSealed_0 : decode cX6_isSealed 0 = .ok (.aload_n 0, 1) := dk_42 (dk_at dksX6_isSealed_0 0 rfl rfl)
theorem dX6_isSealed_1 : decode cX6_isSealed 1 = .ok (.getfield 15, 3) := dk_180 0 15 (dk_at dksX6_isSealed_0 1 rfl rfl)
theorem dX6_isSealed_4 : decode cX6_isSealed 4 = .ok (.iconst (-1), 1) := dk_2 (dk_at dksX6_isSealed_0 4 rfl rfl)
theorem dX6_isSealed_5 : decode cX6_isSealed 5 = .ok (.if_icmp .eq 7, 3) := dk_159 0 7 (dk_at dksX6_isSealed_0 5 rfl rfl)
theorem dX6_isSealed_8 : decode cX6_isSealed 8 = .ok (.iconst 1, 1) := dk_4 (dk_at dksX6_isSealed_0 8 rfl rfl)
theorem dX6_isSealed_9 : decode cX6_isSealed 9 = .ok (.goto 4, 3) := dk_167 0 4 (dk_at dksX6_isSealed_0 9 rfl rfl)
theorem dX6_isSealed_12 : decode cX6_isSealed 12 = .ok (.iconst 0, 1) := dk_3 (dk_at dksX6_isSealed_0 12 rfl rfl)
theorem dX6_isSealed_13 : decode cX6_isSealed 13 = .ok (.ireturn, 1) := dk_172 (dk_at dksX6_isSealed_0 13 rfl rfl)
abbrev cX6_isHere : ByteArray := prog_17_method_16_code
def yX6_isHere : MethodName := ⟨RX6, "isHere", "()Z"⟩
def dkwX6_isHere_0 : List UInt8 := [42, 180, 0, 25, 42, 180, 0, 3, 182, 0, 54, 160, 0, 7, 4, 167, 0, 4, 3, 172]
abbrev dktX6_isHere_0 : List UInt8 := dkwX6_isHere_0 ++ []
theorem dksX6_isHere_0 : cX6_isHere.data.toList.drop 0 = dktX6_isHere_0 := by decide +kernel
theorem dX6_isHere_0 : decode cX6_isHere 0 = .ok (.aload_n 0, 1) := dk_42 (dk_at dksX6_isHere_0 0 rfl rfl)
theorem dX6_isHere_1 : decode cX6_isHere 1 = .ok (.getfield 25, 3) := dk_180 0 25 (dk_at dksX6_isHere_0 1 rfl rfl)
theorem dX6_isHere_4 : decode cX6_isHere 4 = .ok (.aload_n 0, 1) := dk_42 (dk_at dksX6_isHere_0 4 rfl rfl)
theorem dX6_isHere_5 : decode cX6_isHere 5 = .ok (.getfield 3, 3) := dk_180 0 3 (dk_at dksX6_isHere_0 5 rfl rfl)
theorem dX6_isHere_8 : decode cX6_isHere 8 = .ok (.invokevirtual 54, 3) := dk_182 0 54 (dk_at dksX6_isHere_0 8 rfl rfl)
theorem dX6_isHere_11 : decode cX6_isHere 11 = .ok (.if_icmp .ne 7, 3) := dk_160 0 7 (dk_at dksX6_isHere_0 11 rfl rfl)
theorem dX6_isHere_14 : decode cX6_isHere 14 = .ok (.iconst 1, 1) := dk_4 (dk_at dksX6_isHere_0 14 rfl rfl)
theorem dX6_isHere_15 : decode cX6_isHere 15 = .ok (.goto 4, 3) := dk_167 0 4 (dk_at dksX6_isHere_0 15 rfl rfl)
theorem dX6_isHere_18 : decode cX6_isHere 18 = .ok (.iconst 0, 1) := dk_3 (dk_at dksX6_isHere_0 18 rfl rfl)
theorem dX6_isHere_19 : decode cX6_isHere 19 = .ok (.ireturn, 1) := dk_172 (dk_at dksX6_isHere_0 19 rfl rfl)
abbrev cX6_isInspectedNow : ByteArray := prog_17_method_15_code
def yX6_isInspectedNow : MethodName := ⟨RX6, "isInspectedNow", "()Z"⟩
def dkwX6_isInspectedNow_0 : List UInt8 := [42, 180, 0, 19, 42, 180, 0, 3, 180, 0, 49, 160, 0, 7, 4, 167, 0, 4, 3, 172]
abbrev dktX6_isInspectedNow_0 : List UInt8 := dkwX6_isInspectedNow_0 ++ []
theorem dksX6_isInspectedNow_0 : cX6_isInspectedNow.data.toList.drop 0 = dktX6_isInspectedNow_0 := by decide +kernel
theorem dX6_isInspectedNow_0 : decode cX6_isInspectedNow 0 = .ok (.aload_n 0, 1) := dk_42 (dk_at dksX6_isInspectedNow_0 0 rfl rfl)
theorem dX6_isInspectedNow_1 : decode cX6_isInspectedNow 1 = .ok (.getfield 19, 3) := dk_180 0 19 (dk_at dksX6_isInspectedNow_0 1 rfl rfl)
theorem dX6_isInspectedNow_4 : decode cX6_isInspectedNow 4 = .ok (.aload_n 0, 1) := dk_42 (dk_at dksX6_isInspectedNow_0 4 rfl rfl)
theorem dX6_isInspectedNow_5 : decode cX6_isInspectedNow 5 = .ok (.getfield 3, 3) := dk_180 0 3 (dk_at dksX6_isInspectedNow_0 5 rfl rfl)
theorem dX6_isInspectedNow_8 : decode cX6_isInspectedNow 8 = .ok (.getfield 49, 3) := dk_180 0 49 (dk_at dksX6_isInspectedNow_0 8 rfl rfl)
theorem dX6_isInspectedNow_11 : decode cX6_isInspectedNow 11 = .ok (.if_icmp .ne 7, 3) := dk_160 0 7 (dk_at dksX6_isInspectedNow_0 11 rfl rfl)
theorem dX6_isInspectedNow_14 : decode cX6_isInspectedNow 14 = .ok (.iconst 1, 1) := dk_4 (dk_at dksX6_isInspectedNow_0 14 rfl rfl)
theorem dX6_isInspectedNow_15 : decode cX6_isInspectedNow 15 = .ok (.goto 4, 3) := dk_167 0 4 (dk_at dksX6_isInspectedNow_0 15 rfl rfl)
theorem dX6_isInspectedNow_18 : decode cX6_isInspectedNow 18 = .ok (.iconst 0, 1) := dk_3 (dk_at dksX6_isInspectedNow_0 18 rfl rfl)
theorem dX6_isInspectedNow_19 : decode cX6_isInspectedNow 19 = .ok (.ireturn, 1) := dk_172 (dk_at dksX6_isInspectedNow_0 19 rfl rfl)
abbrev cX6_looksAt : ByteArray := prog_17_method_21_code
def yX6_looksAt : MethodName := ⟨RX6, "looksAt", "(LBrassInspector$Brass;)I"⟩
def dkwX6_looksAt_5 : List UInt8 := [180, 0, 49, 181, 0, 19, 28, 172]
abbrev dktX6_looksAt_5 : List UInt8 := dkwX6_looksAt_5 ++ []
def dkwX6_looksAt_4 : List UInt8 := [181, 0, 46, 42, 180, 0, 3, 180, 0, 88, 42, 180, 0, 25, 92, 46, 28, 96, 79, 42, 42, 180, 0, 3]
abbrev dktX6_looksAt_4 : List UInt8 := dkwX6_looksAt_4 ++ dktX6_looksAt_5
def dkwX6_looksAt_3 : List UInt8 := [29, 100, 181, 0, 28, 42, 89, 180, 0, 37, 28, 29, 100, 96, 181, 0, 37, 42, 89, 180, 0, 46, 28, 96]
abbrev dktX6_looksAt_3 : List UInt8 := dkwX6_looksAt_3 ++ dktX6_looksAt_4
def dkwX6_looksAt_2 : List UInt8 := [167, 0, 7, 42, 180, 0, 43, 181, 0, 43, 42, 180, 0, 28, 28, 184, 0, 58, 62, 42, 89, 180, 0, 28]
abbrev dktX6_looksAt_2 : List UInt8 := dkwX6_looksAt_2 ++ dktX6_looksAt_3
def dkwX6_looksAt_1 : List UInt8 := [180, 0, 3, 180, 0, 49, 167, 0, 4, 2, 181, 0, 15, 42, 42, 180, 0, 43, 5, 164, 0, 7, 3]
abbrev dktX6_looksAt_1 : List UInt8 := dkwX6_looksAt_1 ++ dktX6_looksAt_2
def dkwX6_looksAt_0 : List UInt8 := [42, 43, 182, 0, 81, 61, 42, 42, 43, 182, 0, 69, 16, 252, 7, 184, 0, 84, 153, 0, 13, 42]
abbrev dktX6_looksAt_0 : List UInt8 := dkwX6_looksAt_0 ++ dktX6_looksAt_1
theorem dksX6_looksAt_0 : cX6_looksAt.data.toList.drop 0 = dktX6_looksAt_0 := by decide +kernel
theorem dksX6_looksAt_1 : cX6_looksAt.data.toList.drop 22 = dktX6_looksAt_1 := dk_seg dksX6_looksAt_0 22 rfl rfl
theorem dksX6_looksAt_2 : cX6_looksAt.data.toList.drop 45 = dktX6_looksAt_2 := dk_seg dksX6_looksAt_1 23 rfl rfl
theorem dksX6_looksAt_3 : cX6_looksAt.data.toList.drop 69 = dktX6_looksAt_3 := dk_seg dksX6_looksAt_2 24 rfl rfl
theorem dksX6_looksAt_4 : cX6_looksAt.data.toList.drop 93 = dktX6_looksAt_4 := dk_seg dksX6_looksAt_3 24 rfl rfl
theorem dksX6_looksAt_5 : cX6_looksAt.data.toList.drop 117 = dktX6_looksAt_5 := dk_seg dksX6_looksAt_4 24 rfl rfl
theorem dX6_looksAt_0 : decode cX6_looksAt 0 = .ok (.aload_n 0, 1) := dk_42 (dk_at dksX6_looksAt_0 0 rfl rfl)
theorem dX6_looksAt_1 : decode cX6_looksAt 1 = .ok (.aload_n 1, 1) := dk_43 (dk_at dksX6_looksAt_0 1 rfl rfl)
theorem dX6_looksAt_2 : decode cX6_looksAt 2 = .ok (.invokevirtual 81, 3) := dk_182 0 81 (dk_at dksX6_looksAt_0 2 rfl rfl)
theorem dX6_looksAt_5 : decode cX6_looksAt 5 = .ok (.istore_n 2, 1) := dk_61 (dk_at dksX6_looksAt_0 5 rfl rfl)
theorem dX6_looksAt_6 : decode cX6_looksAt 6 = .ok (.aload_n 0, 1) := dk_42 (dk_at dksX6_looksAt_0 6 rfl rfl)
theorem dX6_looksAt_7 : decode cX6_looksAt 7 = .ok (.aload_n 0, 1) := dk_42 (dk_at dksX6_looksAt_0 7 rfl rfl)
theorem dX6_looksAt_8 : decode cX6_looksAt 8 = .ok (.aload_n 1, 1) := dk_43 (dk_at dksX6_looksAt_0 8 rfl rfl)
theorem dX6_looksAt_9 : decode cX6_looksAt 9 = .ok (.invokevirtual 69, 3) := dk_182 0 69 (dk_at dksX6_looksAt_0 9 rfl rfl)
theorem dX6_looksAt_12 : decode cX6_looksAt 12 = .ok (.bipush (-4), 2) := dk_16 252 (dk_at dksX6_looksAt_0 12 rfl rfl)
theorem dX6_looksAt_14 : decode cX6_looksAt 14 = .ok (.iconst 4, 1) := dk_7 (dk_at dksX6_looksAt_0 14 rfl rfl)
theorem dX6_looksAt_15 : decode cX6_looksAt 15 = .ok (.invokestatic 84, 3) := dk_184 0 84 (dk_at dksX6_looksAt_0 15 rfl rfl)
theorem dX6_looksAt_18 : decode cX6_looksAt 18 = .ok (.ifCond .eq 13, 3) := dk_153 0 13 (dk_at dksX6_looksAt_0 18 rfl rfl)
theorem dX6_looksAt_21 : decode cX6_looksAt 21 = .ok (.aload_n 0, 1) := dk_42 (dk_at dksX6_looksAt_0 21 rfl rfl)
theorem dX6_looksAt_22 : decode cX6_looksAt 22 = .ok (.getfield 3, 3) := dk_180 0 3 (dk_at dksX6_looksAt_1 0 rfl rfl)
theorem dX6_looksAt_25 : decode cX6_looksAt 25 = .ok (.getfield 49, 3) := dk_180 0 49 (dk_at dksX6_looksAt_1 3 rfl rfl)
theorem dX6_looksAt_28 : decode cX6_looksAt 28 = .ok (.goto 4, 3) := dk_167 0 4 (dk_at dksX6_looksAt_1 6 rfl rfl)
theorem dX6_looksAt_31 : decode cX6_looksAt 31 = .ok (.iconst (-1), 1) := dk_2 (dk_at dksX6_looksAt_1 9 rfl rfl)
theorem dX6_looksAt_32 : decode cX6_looksAt 32 = .ok (.putfield 15, 3) := dk_181 0 15 (dk_at dksX6_looksAt_1 10 rfl rfl)
theorem dX6_looksAt_35 : decode cX6_looksAt 35 = .ok (.aload_n 0, 1) := dk_42 (dk_at dksX6_looksAt_1 13 rfl rfl)
theorem dX6_looksAt_36 : decode cX6_looksAt 36 = .ok (.aload_n 0, 1) := dk_42 (dk_at dksX6_looksAt_1 14 rfl rfl)
theorem dX6_looksAt_37 : decode cX6_looksAt 37 = .ok (.getfield 43, 3) := dk_180 0 43 (dk_at dksX6_looksAt_1 15 rfl rfl)
theorem dX6_looksAt_40 : decode cX6_looksAt 40 = .ok (.iconst 2, 1) := dk_5 (dk_at dksX6_looksAt_1 18 rfl rfl)
theorem dX6_looksAt_41 : decode cX6_looksAt 41 = .ok (.if_icmp .le 7, 3) := dk_164 0 7 (dk_at dksX6_looksAt_1 19 rfl rfl)
theorem dX6_looksAt_44 : decode cX6_looksAt 44 = .ok (.iconst 0, 1) := dk_3 (dk_at dksX6_looksAt_1 22 rfl rfl)
theorem dX6_looksAt_45 : decode cX6_looksAt 45 = .ok (.goto 7, 3) := dk_167 0 7 (dk_at dksX6_looksAt_2 0 rfl rfl)
theorem dX6_looksAt_48 : decode cX6_looksAt 48 = .ok (.aload_n 0, 1) := dk_42 (dk_at dksX6_looksAt_2 3 rfl rfl)
theorem dX6_looksAt_49 : decode cX6_looksAt 49 = .ok (.getfield 43, 3) := dk_180 0 43 (dk_at dksX6_looksAt_2 4 rfl rfl)
theorem dX6_looksAt_52 : decode cX6_looksAt 52 = .ok (.putfield 43, 3) := dk_181 0 43 (dk_at dksX6_looksAt_2 7 rfl rfl)
theorem dX6_looksAt_55 : decode cX6_looksAt 55 = .ok (.aload_n 0, 1) := dk_42 (dk_at dksX6_looksAt_2 10 rfl rfl)
theorem dX6_looksAt_56 : decode cX6_looksAt 56 = .ok (.getfield 28, 3) := dk_180 0 28 (dk_at dksX6_looksAt_2 11 rfl rfl)
theorem dX6_looksAt_59 : decode cX6_looksAt 59 = .ok (.iload_n 2, 1) := dk_28 (dk_at dksX6_looksAt_2 14 rfl rfl)
theorem dX6_looksAt_60 : decode cX6_looksAt 60 = .ok (.invokestatic 58, 3) := dk_184 0 58 (dk_at dksX6_looksAt_2 15 rfl rfl)
theorem dX6_looksAt_63 : decode cX6_looksAt 63 = .ok (.istore_n 3, 1) := dk_62 (dk_at dksX6_looksAt_2 18 rfl rfl)
theorem dX6_looksAt_64 : decode cX6_looksAt 64 = .ok (.aload_n 0, 1) := dk_42 (dk_at dksX6_looksAt_2 19 rfl rfl)
theorem dX6_looksAt_65 : decode cX6_looksAt 65 = .ok (.dup, 1) := dk_89 (dk_at dksX6_looksAt_2 20 rfl rfl)
theorem dX6_looksAt_66 : decode cX6_looksAt 66 = .ok (.getfield 28, 3) := dk_180 0 28 (dk_at dksX6_looksAt_2 21 rfl rfl)
theorem dX6_looksAt_69 : decode cX6_looksAt 69 = .ok (.iload_n 3, 1) := dk_29 (dk_at dksX6_looksAt_3 0 rfl rfl)
theorem dX6_looksAt_70 : decode cX6_looksAt 70 = .ok (.isub, 1) := dk_100 (dk_at dksX6_looksAt_3 1 rfl rfl)
theorem dX6_looksAt_71 : decode cX6_looksAt 71 = .ok (.putfield 28, 3) := dk_181 0 28 (dk_at dksX6_looksAt_3 2 rfl rfl)
theorem dX6_looksAt_74 : decode cX6_looksAt 74 = .ok (.aload_n 0, 1) := dk_42 (dk_at dksX6_looksAt_3 5 rfl rfl)
theorem dX6_looksAt_75 : decode cX6_looksAt 75 = .ok (.dup, 1) := dk_89 (dk_at dksX6_looksAt_3 6 rfl rfl)
theorem dX6_looksAt_76 : decode cX6_looksAt 76 = .ok (.getfield 37, 3) := dk_180 0 37 (dk_at dksX6_looksAt_3 7 rfl rfl)
theorem dX6_looksAt_79 : decode cX6_looksAt 79 = .ok (.iload_n 2, 1) := dk_28 (dk_at dksX6_looksAt_3 10 rfl rfl)
theorem dX6_looksAt_80 : decode cX6_looksAt 80 = .ok (.iload_n 3, 1) := dk_29 (dk_at dksX6_looksAt_3 11 rfl rfl)
theorem dX6_looksAt_81 : decode cX6_looksAt 81 = .ok (.isub, 1) := dk_100 (dk_at dksX6_looksAt_3 12 rfl rfl)
theorem dX6_looksAt_82 : decode cX6_looksAt 82 = .ok (.iadd, 1) := dk_96 (dk_at dksX6_looksAt_3 13 rfl rfl)
theorem dX6_looksAt_83 : decode cX6_looksAt 83 = .ok (.putfield 37, 3) := dk_181 0 37 (dk_at dksX6_looksAt_3 14 rfl rfl)
theorem dX6_looksAt_86 : decode cX6_looksAt 86 = .ok (.aload_n 0, 1) := dk_42 (dk_at dksX6_looksAt_3 17 rfl rfl)
theorem dX6_looksAt_87 : decode cX6_looksAt 87 = .ok (.dup, 1) := dk_89 (dk_at dksX6_looksAt_3 18 rfl rfl)
theorem dX6_looksAt_88 : decode cX6_looksAt 88 = .ok (.getfield 46, 3) := dk_180 0 46 (dk_at dksX6_looksAt_3 19 rfl rfl)
theorem dX6_looksAt_91 : decode cX6_looksAt 91 = .ok (.iload_n 2, 1) := dk_28 (dk_at dksX6_looksAt_3 22 rfl rfl)
theorem dX6_looksAt_92 : decode cX6_looksAt 92 = .ok (.iadd, 1) := dk_96 (dk_at dksX6_looksAt_3 23 rfl rfl)
theorem dX6_looksAt_93 : decode cX6_looksAt 93 = .ok (.putfield 46, 3) := dk_181 0 46 (dk_at dksX6_looksAt_4 0 rfl rfl)
theorem dX6_looksAt_96 : decode cX6_looksAt 96 = .ok (.aload_n 0, 1) := dk_42 (dk_at dksX6_looksAt_4 3 rfl rfl)
theorem dX6_looksAt_97 : decode cX6_looksAt 97 = .ok (.getfield 3, 3) := dk_180 0 3 (dk_at dksX6_looksAt_4 4 rfl rfl)
theorem dX6_looksAt_100 : decode cX6_looksAt 100 = .ok (.getfield 88, 3) := dk_180 0 88 (dk_at dksX6_looksAt_4 7 rfl rfl)
theorem dX6_looksAt_103 : decode cX6_looksAt 103 = .ok (.aload_n 0, 1) := dk_42 (dk_at dksX6_looksAt_4 10 rfl rfl)
theorem dX6_looksAt_104 : decode cX6_looksAt 104 = .ok (.getfield 25, 3) := dk_180 0 25 (dk_at dksX6_looksAt_4 11 rfl rfl)
theorem dX6_looksAt_107 : decode cX6_looksAt 107 = .ok (.dup2, 1) := dk_92 (dk_at dksX6_looksAt_4 14 rfl rfl)
theorem dX6_looksAt_108 : decode cX6_looksAt 108 = .ok (.iaload, 1) := dk_46 (dk_at dksX6_looksAt_4 15 rfl rfl)
theorem dX6_looksAt_109 : decode cX6_looksAt 109 = .ok (.iload_n 2, 1) := dk_28 (dk_at dksX6_looksAt_4 16 rfl rfl)
theorem dX6_looksAt_110 : decode cX6_looksAt 110 = .ok (.iadd, 1) := dk_96 (dk_at dksX6_looksAt_4 17 rfl rfl)
theorem dX6_looksAt_111 : decode cX6_looksAt 111 = .ok (.iastore, 1) := dk_79 (dk_at dksX6_looksAt_4 18 rfl rfl)
theorem dX6_looksAt_112 : decode cX6_looksAt 112 = .ok (.aload_n 0, 1) := dk_42 (dk_at dksX6_looksAt_4 19 rfl rfl)
theorem dX6_looksAt_113 : decode cX6_looksAt 113 = .ok (.aload_n 0, 1) := dk_42 (dk_at dksX6_looksAt_4 20 rfl rfl)
theorem dX6_looksAt_114 : decode cX6_looksAt 114 = .ok (.getfield 3, 3) := dk_180 0 3 (dk_at dksX6_looksAt_4 21 rfl rfl)
theorem dX6_looksAt_117 : decode cX6_looksAt 117 = .ok (.getfield 49, 3) := dk_180 0 49 (dk_at dksX6_looksAt_5 0 rfl rfl)
theorem dX6_looksAt_120 : decode cX6_looksAt 120 = .ok (.putfield 19, 3) := dk_181 0 19 (dk_at dksX6_looksAt_5 3 rfl rfl)
theorem dX6_looksAt_123 : decode cX6_looksAt 123 = .ok (.iload_n 2, 1) := dk_28 (dk_at dksX6_looksAt_5 6 rfl rfl)
theorem dX6_looksAt_124 : decode cX6_looksAt 124 = .ok (.ireturn, 1) := dk_172 (dk_at dksX6_looksAt_5 7 rfl rfl)
abbrev cX6_fineFor : ByteArray := prog_17_method_20_code
def yX6_fineFor : MethodName := ⟨RX6, "fineFor", "(LBrassInspector$Brass;)I"⟩
def dkwX6_fineFor_3 : List UInt8 := [172]
abbrev dktX6_fineFor_3 : List UInt8 := dkwX6_fineFor_3 ++ []
def dkwX6_fineFor_2 : List UInt8 := [180, 0, 73, 42, 180, 0, 25, 46, 5, 188, 10, 89, 3, 29, 79, 89, 4, 21, 4, 79, 184, 0, 77, 104]
abbrev dktX6_fineFor_2 : List UInt8 := dkwX6_fineFor_2 ++ dktX6_fineFor_3
def dkwX6_fineFor_1 : List UInt8 := [180, 0, 43, 5, 164, 0, 12, 42, 180, 0, 43, 5, 100, 167, 0, 4, 3, 54, 4, 42, 180, 0, 3]
abbrev dktX6_fineFor_1 : List UInt8 := dkwX6_fineFor_1 ++ dktX6_fineFor_2
def dkwX6_fineFor_0 : List UInt8 := [42, 43, 182, 0, 69, 61, 28, 7, 164, 0, 13, 28, 16, 9, 96, 16, 10, 108, 167, 0, 4, 3, 62, 42]
abbrev dktX6_fineFor_0 : List UInt8 := dkwX6_fineFor_0 ++ dktX6_fineFor_1
theorem dksX6_fineFor_0 : cX6_fineFor.data.toList.drop 0 = dktX6_fineFor_0 := by decide +kernel
theorem dksX6_fineFor_1 : cX6_fineFor.data.toList.drop 24 = dktX6_fineFor_1 := dk_seg dksX6_fineFor_0 24 rfl rfl
theorem dksX6_fineFor_2 : cX6_fineFor.data.toList.drop 47 = dktX6_fineFor_2 := dk_seg dksX6_fineFor_1 23 rfl rfl
theorem dksX6_fineFor_3 : cX6_fineFor.data.toList.drop 71 = dktX6_fineFor_3 := dk_seg dksX6_fineFor_2 24 rfl rfl
theorem dX6_fineFor_0 : decode cX6_fineFor 0 = .ok (.aload_n 0, 1) := dk_42 (dk_at dksX6_fineFor_0 0 rfl rfl)
theorem dX6_fineFor_1 : decode cX6_fineFor 1 = .ok (.aload_n 1, 1) := dk_43 (dk_at dksX6_fineFor_0 1 rfl rfl)
theorem dX6_fineFor_2 : decode cX6_fineFor 2 = .ok (.invokevirtual 69, 3) := dk_182 0 69 (dk_at dksX6_fineFor_0 2 rfl rfl)
theorem dX6_fineFor_5 : decode cX6_fineFor 5 = .ok (.istore_n 2, 1) := dk_61 (dk_at dksX6_fineFor_0 5 rfl rfl)
theorem dX6_fineFor_6 : decode cX6_fineFor 6 = .ok (.iload_n 2, 1) := dk_28 (dk_at dksX6_fineFor_0 6 rfl rfl)
theorem dX6_fineFor_7 : decode cX6_fineFor 7 = .ok (.iconst 4, 1) := dk_7 (dk_at dksX6_fineFor_0 7 rfl rfl)
theorem dX6_fineFor_8 : decode cX6_fineFor 8 = .ok (.if_icmp .le 13, 3) := dk_164 0 13 (dk_at dksX6_fineFor_0 8 rfl rfl)
theorem dX6_fineFor_11 : decode cX6_fineFor 11 = .ok (.iload_n 2, 1) := dk_28 (dk_at dksX6_fineFor_0 11 rfl rfl)
theorem dX6_fineFor_12 : decode cX6_fineFor 12 = .ok (.bipush 9, 2) := dk_16 9 (dk_at dksX6_fineFor_0 12 rfl rfl)
theorem dX6_fineFor_14 : decode cX6_fineFor 14 = .ok (.iadd, 1) := dk_96 (dk_at dksX6_fineFor_0 14 rfl rfl)
theorem dX6_fineFor_15 : decode cX6_fineFor 15 = .ok (.bipush 10, 2) := dk_16 10 (dk_at dksX6_fineFor_0 15 rfl rfl)
theorem dX6_fineFor_17 : decode cX6_fineFor 17 = .ok (.idiv, 1) := dk_108 (dk_at dksX6_fineFor_0 17 rfl rfl)
theorem dX6_fineFor_18 : decode cX6_fineFor 18 = .ok (.goto 4, 3) := dk_167 0 4 (dk_at dksX6_fineFor_0 18 rfl rfl)
theorem dX6_fineFor_21 : decode cX6_fineFor 21 = .ok (.iconst 0, 1) := dk_3 (dk_at dksX6_fineFor_0 21 rfl rfl)
theorem dX6_fineFor_22 : decode cX6_fineFor 22 = .ok (.istore_n 3, 1) := dk_62 (dk_at dksX6_fineFor_0 22 rfl rfl)
theorem dX6_fineFor_23 : decode cX6_fineFor 23 = .ok (.aload_n 0, 1) := dk_42 (dk_at dksX6_fineFor_0 23 rfl rfl)
theorem dX6_fineFor_24 : decode cX6_fineFor 24 = .ok (.getfield 43, 3) := dk_180 0 43 (dk_at dksX6_fineFor_1 0 rfl rfl)
theorem dX6_fineFor_27 : decode cX6_fineFor 27 = .ok (.iconst 2, 1) := dk_5 (dk_at dksX6_fineFor_1 3 rfl rfl)
theorem dX6_fineFor_28 : decode cX6_fineFor 28 = .ok (.if_icmp .le 12, 3) := dk_164 0 12 (dk_at dksX6_fineFor_1 4 rfl rfl)
theorem dX6_fineFor_31 : decode cX6_fineFor 31 = .ok (.aload_n 0, 1) := dk_42 (dk_at dksX6_fineFor_1 7 rfl rfl)
theorem dX6_fineFor_32 : decode cX6_fineFor 32 = .ok (.getfield 43, 3) := dk_180 0 43 (dk_at dksX6_fineFor_1 8 rfl rfl)
theorem dX6_fineFor_35 : decode cX6_fineFor 35 = .ok (.iconst 2, 1) := dk_5 (dk_at dksX6_fineFor_1 11 rfl rfl)
theorem dX6_fineFor_36 : decode cX6_fineFor 36 = .ok (.isub, 1) := dk_100 (dk_at dksX6_fineFor_1 12 rfl rfl)
theorem dX6_fineFor_37 : decode cX6_fineFor 37 = .ok (.goto 4, 3) := dk_167 0 4 (dk_at dksX6_fineFor_1 13 rfl rfl)
theorem dX6_fineFor_40 : decode cX6_fineFor 40 = .ok (.iconst 0, 1) := dk_3 (dk_at dksX6_fineFor_1 16 rfl rfl)
theorem dX6_fineFor_41 : decode cX6_fineFor 41 = .ok (.istore 4, 2) := dk_54 4 (dk_at dksX6_fineFor_1 17 rfl rfl)
theorem dX6_fineFor_43 : decode cX6_fineFor 43 = .ok (.aload_n 0, 1) := dk_42 (dk_at dksX6_fineFor_1 19 rfl rfl)
theorem dX6_fineFor_44 : decode cX6_fineFor 44 = .ok (.getfield 3, 3) := dk_180 0 3 (dk_at dksX6_fineFor_1 20 rfl rfl)
theorem dX6_fineFor_47 : decode cX6_fineFor 47 = .ok (.getfield 73, 3) := dk_180 0 73 (dk_at dksX6_fineFor_2 0 rfl rfl)
theorem dX6_fineFor_50 : decode cX6_fineFor 50 = .ok (.aload_n 0, 1) := dk_42 (dk_at dksX6_fineFor_2 3 rfl rfl)
theorem dX6_fineFor_51 : decode cX6_fineFor 51 = .ok (.getfield 25, 3) := dk_180 0 25 (dk_at dksX6_fineFor_2 4 rfl rfl)
theorem dX6_fineFor_54 : decode cX6_fineFor 54 = .ok (.iaload, 1) := dk_46 (dk_at dksX6_fineFor_2 7 rfl rfl)
theorem dX6_fineFor_55 : decode cX6_fineFor 55 = .ok (.iconst 2, 1) := dk_5 (dk_at dksX6_fineFor_2 8 rfl rfl)
theorem dX6_fineFor_56 : decode cX6_fineFor 56 = .ok (.newarray .int, 2) := dk_188_10 (dk_at dksX6_fineFor_2 9 rfl rfl)
theorem dX6_fineFor_58 : decode cX6_fineFor 58 = .ok (.dup, 1) := dk_89 (dk_at dksX6_fineFor_2 11 rfl rfl)
theorem dX6_fineFor_59 : decode cX6_fineFor 59 = .ok (.iconst 0, 1) := dk_3 (dk_at dksX6_fineFor_2 12 rfl rfl)
theorem dX6_fineFor_60 : decode cX6_fineFor 60 = .ok (.iload_n 3, 1) := dk_29 (dk_at dksX6_fineFor_2 13 rfl rfl)
theorem dX6_fineFor_61 : decode cX6_fineFor 61 = .ok (.iastore, 1) := dk_79 (dk_at dksX6_fineFor_2 14 rfl rfl)
theorem dX6_fineFor_62 : decode cX6_fineFor 62 = .ok (.dup, 1) := dk_89 (dk_at dksX6_fineFor_2 15 rfl rfl)
theorem dX6_fineFor_63 : decode cX6_fineFor 63 = .ok (.iconst 1, 1) := dk_4 (dk_at dksX6_fineFor_2 16 rfl rfl)
theorem dX6_fineFor_64 : decode cX6_fineFor 64 = .ok (.iload 4, 2) := dk_21 4 (dk_at dksX6_fineFor_2 17 rfl rfl)
theorem dX6_fineFor_66 : decode cX6_fineFor 66 = .ok (.iastore, 1) := dk_79 (dk_at dksX6_fineFor_2 19 rfl rfl)
theorem dX6_fineFor_67 : decode cX6_fineFor 67 = .ok (.invokestatic 77, 3) := dk_184 0 77 (dk_at dksX6_fineFor_2 20 rfl rfl)
theorem dX6_fineFor_70 : decode cX6_fineFor 70 = .ok (.imul, 1) := dk_104 (dk_at dksX6_fineFor_2 23 rfl rfl)
theorem dX6_fineFor_71 : decode cX6_fineFor 71 = .ok (.ireturn, 1) := dk_172 (dk_at dksX6_fineFor_3 0 rfl rfl)
abbrev cX6_shows : ByteArray := prog_17_method_19_code
def yX6_shows : MethodName := ⟨RX6, "shows", "(LBrassInspector$Brass;)I"⟩
def dkwX6_shows_0 : List UInt8 := [42, 180, 0, 40, 43, 182, 0, 64, 100, 172]
abbrev dktX6_shows_0 : List UInt8 := dkwX6_shows_0 ++ []
theorem dksX6_shows_0 : cX6_shows.data.toList.drop 0 = dktX6_shows_0 := by decide +kernel
theorem dX6_shows_0 : decode cX6_shows 0 = .ok (.aload_n 0, 1) := dk_42 (dk_at dksX6_shows_0 0 rfl rfl)
theorem dX6_shows_1 : decode cX6_shows 1 = .ok (.getfield 40, 3) := dk_180 0 40 (dk_at dksX6_shows_0 1 rfl rfl)
theorem dX6_shows_4 : decode cX6_shows 4 = .ok (.aload_n 1, 1) := dk_43 (dk_at dksX6_shows_0 4 rfl rfl)
theorem dX6_shows_5 : decode cX6_shows 5 = .ok (.invokevirtual 64, 3) := dk_182 0 64 (dk_at dksX6_shows_0 5 rfl rfl)
theorem dX6_shows_8 : decode cX6_shows 8 = .ok (.isub, 1) := dk_100 (dk_at dksX6_shows_0 8 rfl rfl)
theorem dX6_shows_9 : decode cX6_shows 9 = .ok (.ireturn, 1) := dk_172 (dk_at dksX6_shows_0 9 rfl rfl)
abbrev cX6_error : ByteArray := prog_17_method_7_code
def yX6_error : MethodName := ⟨RX6, "error", "()I"⟩
theorem dX6_error_0 : decode cX6_error 0 = .ok (.aload_n 0, 1) := by decide +kernel
theorem dX6_error_1 : decode cX6_error 1 = .ok (.getfield 40, 3) := by decide +kernel
theorem dX6_error_4 : decode cX6_error 4 = .ok (.ireturn, 1) := by decide +kernel
abbrev cX6_coins : ByteArray := prog_17_method_5_code
def yX6_coins : MethodName := ⟨RX6, "coins", "()I"⟩
theorem dX6_coins_0 : decode cX6_coins 0 = .ok (.aload_n 0, 1) := by decide +kernel
theorem dX6_coins_1 : decode cX6_coins 1 = .ok (.getfield 28, 3) := by decide +kernel
theorem dX6_coins_4 : decode cX6_coins 4 = .ok (.ireturn, 1) := by decide +kernel
abbrev cX6_mended : ByteArray := prog_17_method_22_code
def yX6_mended : MethodName := ⟨RX6, "mended", "()I"⟩
def dkwX6_mended_1 : List UInt8 := [181, 0, 28, 27, 172]
abbrev dktX6_mended_1 : List UInt8 := dkwX6_mended_1 ++ []
def dkwX6_mended_0 : List UInt8 := [42, 180, 0, 40, 60, 42, 3, 181, 0, 40, 42, 2, 181, 0, 15, 42, 89, 180, 0, 28, 16, 6, 100]
abbrev dktX6_mended_0 : List UInt8 := dkwX6_mended_0 ++ dktX6_mended_1
theorem dksX6_mended_0 : cX6_mended.data.toList.drop 0 = dktX6_mended_0 := by decide +kernel
theorem dksX6_mended_1 : cX6_mended.data.toList.drop 23 = dktX6_mended_1 := dk_seg dksX6_mended_0 23 rfl rfl
theorem dX6_mended_0 : decode cX6_mended 0 = .ok (.aload_n 0, 1) := dk_42 (dk_at dksX6_mended_0 0 rfl rfl)
theorem dX6_mended_1 : decode cX6_mended 1 = .ok (.getfield 40, 3) := dk_180 0 40 (dk_at dksX6_mended_0 1 rfl rfl)
theorem dX6_mended_4 : decode cX6_mended 4 = .ok (.istore_n 1, 1) := dk_60 (dk_at dksX6_mended_0 4 rfl rfl)
theorem dX6_mended_5 : decode cX6_mended 5 = .ok (.aload_n 0, 1) := dk_42 (dk_at dksX6_mended_0 5 rfl rfl)
theorem dX6_mended_6 : decode cX6_mended 6 = .ok (.iconst 0, 1) := dk_3 (dk_at dksX6_mended_0 6 rfl rfl)
theorem dX6_mended_7 : decode cX6_mended 7 = .ok (.putfield 40, 3) := dk_181 0 40 (dk_at dksX6_mended_0 7 rfl rfl)
theorem dX6_mended_10 : decode cX6_mended 10 = .ok (.aload_n 0, 1) := dk_42 (dk_at dksX6_mended_0 10 rfl rfl)
theorem dX6_mended_11 : decode cX6_mended 11 = .ok (.iconst (-1), 1) := dk_2 (dk_at dksX6_mended_0 11 rfl rfl)
theorem dX6_mended_12 : decode cX6_mended 12 = .ok (.putfield 15, 3) := dk_181 0 15 (dk_at dksX6_mended_0 12 rfl rfl)
theorem dX6_mended_15 : decode cX6_mended 15 = .ok (.aload_n 0, 1) := dk_42 (dk_at dksX6_mended_0 15 rfl rfl)
theorem dX6_mended_16 : decode cX6_mended 16 = .ok (.dup, 1) := dk_89 (dk_at dksX6_mended_0 16 rfl rfl)
theorem dX6_mended_17 : decode cX6_mended 17 = .ok (.getfield 28, 3) := dk_180 0 28 (dk_at dksX6_mended_0 17 rfl rfl)
theorem dX6_mended_20 : decode cX6_mended 20 = .ok (.bipush 6, 2) := dk_16 6 (dk_at dksX6_mended_0 20 rfl rfl)
theorem dX6_mended_22 : decode cX6_mended 22 = .ok (.isub, 1) := dk_100 (dk_at dksX6_mended_0 22 rfl rfl)
theorem dX6_mended_23 : decode cX6_mended 23 = .ok (.putfield 28, 3) := dk_181 0 28 (dk_at dksX6_mended_1 0 rfl rfl)
theorem dX6_mended_26 : decode cX6_mended 26 = .ok (.iload_n 1, 1) := dk_27 (dk_at dksX6_mended_1 3 rfl rfl)
theorem dX6_mended_27 : decode cX6_mended 27 = .ok (.ireturn, 1) := dk_172 (dk_at dksX6_mended_1 4 rfl rfl)
abbrev cX6_shave : ByteArray := prog_17_method_12_code
def yX6_shave : MethodName := ⟨RX6, "shave", "()I"⟩
theorem dX6_shave_0 : decode cX6_shave 0 = .ok (.aload_n 0, 1) := by decide +kernel
theorem dX6_shave_1 : decode cX6_shave 1 = .ok (.getfield 43, 3) := by decide +kernel
theorem dX6_shave_4 : decode cX6_shave 4 = .ok (.ireturn, 1) := by decide +kernel
abbrev cX6_shaves : ByteArray := prog_17_method_23_code
def yX6_shaves : MethodName := ⟨RX6, "shaves", "(I)I"⟩
def dkwX6_shaves_0 : List UInt8 := [42, 16, 20, 42, 180, 0, 43, 27, 96, 184, 0, 58, 181, 0, 43, 42, 180, 0, 43, 172]
abbrev dktX6_shaves_0 : List UInt8 := dkwX6_shaves_0 ++ []
theorem dksX6_shaves_0 : cX6_shaves.data.toList.drop 0 = dktX6_shaves_0 := by decide +kernel
theorem dX6_shaves_0 : decode cX6_shaves 0 = .ok (.aload_n 0, 1) := dk_42 (dk_at dksX6_shaves_0 0 rfl rfl)
theorem dX6_shaves_1 : decode cX6_shaves 1 = .ok (.bipush 20, 2) := dk_16 20 (dk_at dksX6_shaves_0 1 rfl rfl)
theorem dX6_shaves_3 : decode cX6_shaves 3 = .ok (.aload_n 0, 1) := dk_42 (dk_at dksX6_shaves_0 3 rfl rfl)
theorem dX6_shaves_4 : decode cX6_shaves 4 = .ok (.getfield 43, 3) := dk_180 0 43 (dk_at dksX6_shaves_0 4 rfl rfl)
theorem dX6_shaves_7 : decode cX6_shaves 7 = .ok (.iload_n 1, 1) := dk_27 (dk_at dksX6_shaves_0 7 rfl rfl)
theorem dX6_shaves_8 : decode cX6_shaves 8 = .ok (.iadd, 1) := dk_96 (dk_at dksX6_shaves_0 8 rfl rfl)
theorem dX6_shaves_9 : decode cX6_shaves 9 = .ok (.invokestatic 58, 3) := dk_184 0 58 (dk_at dksX6_shaves_0 9 rfl rfl)
theorem dX6_shaves_12 : decode cX6_shaves 12 = .ok (.putfield 43, 3) := dk_181 0 43 (dk_at dksX6_shaves_0 12 rfl rfl)
theorem dX6_shaves_15 : decode cX6_shaves 15 = .ok (.aload_n 0, 1) := dk_42 (dk_at dksX6_shaves_0 15 rfl rfl)
theorem dX6_shaves_16 : decode cX6_shaves 16 = .ok (.getfield 43, 3) := dk_180 0 43 (dk_at dksX6_shaves_0 16 rfl rfl)
theorem dX6_shaves_19 : decode cX6_shaves 19 = .ok (.ireturn, 1) := dk_172 (dk_at dksX6_shaves_0 19 rfl rfl)
abbrev cX6_drift : ByteArray := prog_17_method_9_code
def yX6_drift : MethodName := ⟨RX6, "drift", "(I)I"⟩
def dkwX6_drift_0 : List UInt8 := [42, 180, 0, 31, 61, 42, 27, 181, 0, 31, 28, 172]
abbrev dktX6_drift_0 : List UInt8 := dkwX6_drift_0 ++ []
theorem dksX6_drift_0 : cX6_drift.data.toList.drop 0 = dktX6_drift_0 := by decide +kernel
theorem dX6_drift_0 : decode cX6_drift 0 = .ok (.aload_n 0, 1) := dk_42 (dk_at dksX6_drift_0 0 rfl rfl)
theorem dX6_drift_1 : decode cX6_drift 1 = .ok (.getfield 31, 3) := dk_180 0 31 (dk_at dksX6_drift_0 1 rfl rfl)
theorem dX6_drift_4 : decode cX6_drift 4 = .ok (.istore_n 2, 1) := dk_61 (dk_at dksX6_drift_0 4 rfl rfl)
theorem dX6_drift_5 : decode cX6_drift 5 = .ok (.aload_n 0, 1) := dk_42 (dk_at dksX6_drift_0 5 rfl rfl)
theorem dX6_drift_6 : decode cX6_drift 6 = .ok (.iload_n 1, 1) := dk_27 (dk_at dksX6_drift_0 6 rfl rfl)
theorem dX6_drift_7 : decode cX6_drift 7 = .ok (.putfield 31, 3) := dk_181 0 31 (dk_at dksX6_drift_0 7 rfl rfl)
theorem dX6_drift_10 : decode cX6_drift 10 = .ok (.iload_n 2, 1) := dk_28 (dk_at dksX6_drift_0 10 rfl rfl)
theorem dX6_drift_11 : decode cX6_drift 11 = .ok (.ireturn, 1) := dk_172 (dk_at dksX6_drift_0 11 rfl rfl)
abbrev cX6_debt : ByteArray := prog_17_method_6_code
def yX6_debt : MethodName := ⟨RX6, "debt", "()I"⟩
theorem dX6_debt_0 : decode cX6_debt 0 = .ok (.aload_n 0, 1) := by decide +kernel
theorem dX6_debt_1 : decode cX6_debt 1 = .ok (.getfield 37, 3) := by decide +kernel
theorem dX6_debt_4 : decode cX6_debt 4 = .ok (.ireturn, 1) := by decide +kernel
abbrev cX6_pays : ByteArray := prog_17_method_24_code
def yX6_pays : MethodName := ⟨RX6, "pays", "(I)I"⟩
def dkwX6_pays_1 : List UInt8 := [172]
abbrev dktX6_pays_1 : List UInt8 := dkwX6_pays_1 ++ []
def dkwX6_pays_0 : List UInt8 := [42, 89, 180, 0, 28, 27, 100, 181, 0, 28, 42, 89, 180, 0, 37, 27, 100, 181, 0, 37, 42, 180, 0, 37]
abbrev dktX6_pays_0 : List UInt8 := dkwX6_pays_0 ++ dktX6_pays_1
theorem dksX6_pays_0 : cX6_pays.data.toList.drop 0 = dktX6_pays_0 := by decide +kernel
theorem dksX6_pays_1 : cX6_pays.data.toList.drop 24 = dktX6_pays_1 := dk_seg dksX6_pays_0 24 rfl rfl
theorem dX6_pays_0 : decode cX6_pays 0 = .ok (.aload_n 0, 1) := dk_42 (dk_at dksX6_pays_0 0 rfl rfl)
theorem dX6_pays_1 : decode cX6_pays 1 = .ok (.dup, 1) := dk_89 (dk_at dksX6_pays_0 1 rfl rfl)
theorem dX6_pays_2 : decode cX6_pays 2 = .ok (.getfield 28, 3) := dk_180 0 28 (dk_at dksX6_pays_0 2 rfl rfl)
theorem dX6_pays_5 : decode cX6_pays 5 = .ok (.iload_n 1, 1) := dk_27 (dk_at dksX6_pays_0 5 rfl rfl)
theorem dX6_pays_6 : decode cX6_pays 6 = .ok (.isub, 1) := dk_100 (dk_at dksX6_pays_0 6 rfl rfl)
theorem dX6_pays_7 : decode cX6_pays 7 = .ok (.putfield 28, 3) := dk_181 0 28 (dk_at dksX6_pays_0 7 rfl rfl)
theorem dX6_pays_10 : decode cX6_pays 10 = .ok (.aload_n 0, 1) := dk_42 (dk_at dksX6_pays_0 10 rfl rfl)
theorem dX6_pays_11 : decode cX6_pays 11 = .ok (.dup, 1) := dk_89 (dk_at dksX6_pays_0 11 rfl rfl)
theorem dX6_pays_12 : decode cX6_pays 12 = .ok (.getfield 37, 3) := dk_180 0 37 (dk_at dksX6_pays_0 12 rfl rfl)
theorem dX6_pays_15 : decode cX6_pays 15 = .ok (.iload_n 1, 1) := dk_27 (dk_at dksX6_pays_0 15 rfl rfl)
theorem dX6_pays_16 : decode cX6_pays 16 = .ok (.isub, 1) := dk_100 (dk_at dksX6_pays_0 16 rfl rfl)
theorem dX6_pays_17 : decode cX6_pays 17 = .ok (.putfield 37, 3) := dk_181 0 37 (dk_at dksX6_pays_0 17 rfl rfl)
theorem dX6_pays_20 : decode cX6_pays 20 = .ok (.aload_n 0, 1) := dk_42 (dk_at dksX6_pays_0 20 rfl rfl)
theorem dX6_pays_21 : decode cX6_pays 21 = .ok (.getfield 37, 3) := dk_180 0 37 (dk_at dksX6_pays_0 21 rfl rfl)
theorem dX6_pays_24 : decode cX6_pays 24 = .ok (.ireturn, 1) := dk_172 (dk_at dksX6_pays_1 0 rfl rfl)
abbrev cX6_drift_2 : ByteArray := prog_17_method_8_code
def yX6_drift_2 : MethodName := ⟨RX6, "drift", "()I"⟩
theorem dX6_drift_2_0 : decode cX6_drift_2 0 = .ok (.aload_n 0, 1) := by decide +kernel
theorem dX6_drift_2_1 : decode cX6_drift_2 1 = .ok (.getfield 31, 3) := by decide +kernel
theorem dX6_drift_2_4 : decode cX6_drift_2 4 = .ok (.ireturn, 1) := by decide +kernel
abbrev cX6_seal : ByteArray := prog_17_method_10_code
def yX6_seal : MethodName := ⟨RX6, "seal", "()I"⟩
theorem dX6_seal_0 : decode cX6_seal 0 = .ok (.aload_n 0, 1) := by decide +kernel
theorem dX6_seal_1 : decode cX6_seal 1 = .ok (.getfield 15, 3) := by decide +kernel
theorem dX6_seal_4 : decode cX6_seal 4 = .ok (.ireturn, 1) := by decide +kernel
abbrev cX6_fined : ByteArray := prog_17_method_13_code
def yX6_fined : MethodName := ⟨RX6, "fined", "()I"⟩
theorem dX6_fined_0 : decode cX6_fined 0 = .ok (.aload_n 0, 1) := by decide +kernel
theorem dX6_fined_1 : decode cX6_fined 1 = .ok (.getfield 46, 3) := by decide +kernel
theorem dX6_fined_4 : decode cX6_fined 4 = .ok (.ireturn, 1) := by decide +kernel
abbrev cX6_inspected : ByteArray := prog_17_method_14_code
def yX6_inspected : MethodName := ⟨RX6, "inspected", "()I"⟩
theorem dX6_inspected_0 : decode cX6_inspected 0 = .ok (.aload_n 0, 1) := by decide +kernel
theorem dX6_inspected_1 : decode cX6_inspected 1 = .ok (.getfield 19, 3) := by decide +kernel
theorem dX6_inspected_4 : decode cX6_inspected 4 = .ok (.ireturn, 1) := by decide +kernel
abbrev cX6_number : ByteArray := prog_17_method_3_code
def yX6_number : MethodName := ⟨RX6, "number", "()I"⟩
theorem dX6_number_0 : decode cX6_number 0 = .ok (.aload_n 0, 1) := by decide +kernel
theorem dX6_number_1 : decode cX6_number 1 = .ok (.getfield 22, 3) := by decide +kernel
theorem dX6_number_4 : decode cX6_number 4 = .ok (.ireturn, 1) := by decide +kernel
abbrev cX6_isFalse : ByteArray := prog_17_method_30_code
def yX6_isFalse : MethodName := ⟨RX6, "isFalse", "()Z"⟩
def dkwX6_isFalse_0 : List UInt8 := [42, 180, 0, 40, 16, 252, 7, 184, 0, 84, 154, 0, 7, 4, 167, 0, 4, 3, 172]
abbrev dktX6_isFalse_0 : List UInt8 := dkwX6_isFalse_0 ++ []
theorem dksX6_isFalse_0 : cX6_isFalse.data.toList.drop 0 = dktX6_isFalse_0 := by decide +kernel
theorem dX6_isFalse_0 : decode cX6_isFalse 0 = .ok (.aload_n 0, 1) := dk_42 (dk_at dksX6_isFalse_0 0 rfl rfl)
theorem dX6_isFalse_1 : decode cX6_isFalse 1 = .ok (.getfield 40, 3) := dk_180 0 40 (dk_at dksX6_isFalse_0 1 rfl rfl)
theorem dX6_isFalse_4 : decode cX6_isFalse 4 = .ok (.bipush (-4), 2) := dk_16 252 (dk_at dksX6_isFalse_0 4 rfl rfl)
theorem dX6_isFalse_6 : decode cX6_isFalse 6 = .ok (.iconst 4, 1) := dk_7 (dk_at dksX6_isFalse_0 6 rfl rfl)
theorem dX6_isFalse_7 : decode cX6_isFalse 7 = .ok (.invokestatic 84, 3) := dk_184 0 84 (dk_at dksX6_isFalse_0 7 rfl rfl)
theorem dX6_isFalse_10 : decode cX6_isFalse 10 = .ok (.ifCond .ne 7, 3) := dk_154 0 7 (dk_at dksX6_isFalse_0 10 rfl rfl)
theorem dX6_isFalse_13 : decode cX6_isFalse 13 = .ok (.iconst 1, 1) := dk_4 (dk_at dksX6_isFalse_0 13 rfl rfl)
theorem dX6_isFalse_14 : decode cX6_isFalse 14 = .ok (.goto 4, 3) := dk_167 0 4 (dk_at dksX6_isFalse_0 14 rfl rfl)
theorem dX6_isFalse_17 : decode cX6_isFalse 17 = .ok (.iconst 0, 1) := dk_3 (dk_at dksX6_isFalse_0 17 rfl rfl)
theorem dX6_isFalse_18 : decode cX6_isFalse 18 = .ok (.ireturn, 1) := dk_172 (dk_at dksX6_isFalse_0 18 rfl rfl)
abbrev cX6_lossAgain : ByteArray := prog_17_method_26_code
def yX6_lossAgain : MethodName := ⟨RX6, "lossAgain", "()I"⟩
def dkwX6_lossAgain_1 : List UInt8 := [28, 42, 180, 0, 43, 163, 0, 12, 132, 1, 1, 132, 2, 5, 167, 255, 242, 27, 172]
abbrev dktX6_lossAgain_1 : List UInt8 := dkwX6_lossAgain_1 ++ []
def dkwX6_lossAgain_0 : List UInt8 := [3, 60, 16, 10, 61, 28, 42, 180, 0, 40, 163, 0, 12, 132, 1, 1, 132, 2, 10, 167, 255, 242, 8, 61]
abbrev dktX6_lossAgain_0 : List UInt8 := dkwX6_lossAgain_0 ++ dktX6_lossAgain_1
theorem dksX6_lossAgain_0 : cX6_lossAgain.data.toList.drop 0 = dktX6_lossAgain_0 := by decide +kernel
theorem dksX6_lossAgain_1 : cX6_lossAgain.data.toList.drop 24 = dktX6_lossAgain_1 := dk_seg dksX6_lossAgain_0 24 rfl rfl
theorem dX6_lossAgain_0 : decode cX6_lossAgain 0 = .ok (.iconst 0, 1) := dk_3 (dk_at dksX6_lossAgain_0 0 rfl rfl)
theorem dX6_lossAgain_1 : decode cX6_lossAgain 1 = .ok (.istore_n 1, 1) := dk_60 (dk_at dksX6_lossAgain_0 1 rfl rfl)
theorem dX6_lossAgain_2 : decode cX6_lossAgain 2 = .ok (.bipush 10, 2) := dk_16 10 (dk_at dksX6_lossAgain_0 2 rfl rfl)
theorem dX6_lossAgain_4 : decode cX6_lossAgain 4 = .ok (.istore_n 2, 1) := dk_61 (dk_at dksX6_lossAgain_0 4 rfl rfl)
theorem dX6_lossAgain_5 : decode cX6_lossAgain 5 = .ok (.iload_n 2, 1) := dk_28 (dk_at dksX6_lossAgain_0 5 rfl rfl)
theorem dX6_lossAgain_6 : decode cX6_lossAgain 6 = .ok (.aload_n 0, 1) := dk_42 (dk_at dksX6_lossAgain_0 6 rfl rfl)
theorem dX6_lossAgain_7 : decode cX6_lossAgain 7 = .ok (.getfield 40, 3) := dk_180 0 40 (dk_at dksX6_lossAgain_0 7 rfl rfl)
theorem dX6_lossAgain_10 : decode cX6_lossAgain 10 = .ok (.if_icmp .gt 12, 3) := dk_163 0 12 (dk_at dksX6_lossAgain_0 10 rfl rfl)
theorem dX6_lossAgain_13 : decode cX6_lossAgain 13 = .ok (.iinc 1 1, 3) := dk_132 1 1 (dk_at dksX6_lossAgain_0 13 rfl rfl)
theorem dX6_lossAgain_16 : decode cX6_lossAgain 16 = .ok (.iinc 2 10, 3) := dk_132 2 10 (dk_at dksX6_lossAgain_0 16 rfl rfl)
theorem dX6_lossAgain_19 : decode cX6_lossAgain 19 = .ok (.goto (-14), 3) := dk_167 255 242 (dk_at dksX6_lossAgain_0 19 rfl rfl)
theorem dX6_lossAgain_22 : decode cX6_lossAgain 22 = .ok (.iconst 5, 1) := dk_8 (dk_at dksX6_lossAgain_0 22 rfl rfl)
theorem dX6_lossAgain_23 : decode cX6_lossAgain 23 = .ok (.istore_n 2, 1) := dk_61 (dk_at dksX6_lossAgain_0 23 rfl rfl)
theorem dX6_lossAgain_24 : decode cX6_lossAgain 24 = .ok (.iload_n 2, 1) := dk_28 (dk_at dksX6_lossAgain_1 0 rfl rfl)
theorem dX6_lossAgain_25 : decode cX6_lossAgain 25 = .ok (.aload_n 0, 1) := dk_42 (dk_at dksX6_lossAgain_1 1 rfl rfl)
theorem dX6_lossAgain_26 : decode cX6_lossAgain 26 = .ok (.getfield 43, 3) := dk_180 0 43 (dk_at dksX6_lossAgain_1 2 rfl rfl)
theorem dX6_lossAgain_29 : decode cX6_lossAgain 29 = .ok (.if_icmp .gt 12, 3) := dk_163 0 12 (dk_at dksX6_lossAgain_1 5 rfl rfl)
theorem dX6_lossAgain_32 : decode cX6_lossAgain 32 = .ok (.iinc 1 1, 3) := dk_132 1 1 (dk_at dksX6_lossAgain_1 8 rfl rfl)
theorem dX6_lossAgain_35 : decode cX6_lossAgain 35 = .ok (.iinc 2 5, 3) := dk_132 2 5 (dk_at dksX6_lossAgain_1 11 rfl rfl)
theorem dX6_lossAgain_38 : decode cX6_lossAgain 38 = .ok (.goto (-14), 3) := dk_167 255 242 (dk_at dksX6_lossAgain_1 14 rfl rfl)
theorem dX6_lossAgain_41 : decode cX6_lossAgain 41 = .ok (.iload_n 1, 1) := dk_27 (dk_at dksX6_lossAgain_1 17 rfl rfl)
theorem dX6_lossAgain_42 : decode cX6_lossAgain 42 = .ok (.ireturn, 1) := dk_172 (dk_at dksX6_lossAgain_1 18 rfl rfl)
abbrev cX6_write : ByteArray := prog_17_method_31_code
def yX6_write : MethodName := ⟨RX6, "write", "(Ljava/lang/StringBuilder;)V"⟩
def dkwX6_write_4 : List UInt8 := [182, 0, 119, 87, 177]
abbrev dktX6_write_4 : List UInt8 := dkwX6_write_4 ++ []
def dkwX6_write_3 : List UInt8 := [180, 0, 15, 182, 0, 108, 87, 43, 42, 182, 0, 122, 153, 0, 8, 18, 125, 167, 0, 5, 18, 127]
abbrev dktX6_write_3 : List UInt8 := dkwX6_write_3 ++ dktX6_write_4
def dkwX6_write_2 : List UInt8 := [42, 180, 0, 37, 182, 0, 108, 87, 42, 182, 0, 104, 153, 0, 17, 43, 18, 117, 182, 0, 119, 42]
abbrev dktX6_write_2 : List UInt8 := dkwX6_write_2 ++ dktX6_write_3
def dkwX6_write_1 : List UInt8 := [182, 0, 114, 42, 180, 0, 28, 182, 0, 108, 87, 42, 180, 0, 37, 158, 0, 17, 43, 16, 47, 182, 0, 114]
abbrev dktX6_write_1 : List UInt8 := dkwX6_write_1 ++ dktX6_write_2
def dkwX6_write_0 : List UInt8 := [43, 42, 180, 0, 22, 182, 0, 108, 16, 64, 182, 0, 114, 42, 180, 0, 25, 182, 0, 108, 16, 32]
abbrev dktX6_write_0 : List UInt8 := dkwX6_write_0 ++ dktX6_write_1
theorem dksX6_write_0 : cX6_write.data.toList.drop 0 = dktX6_write_0 := by decide +kernel
theorem dksX6_write_1 : cX6_write.data.toList.drop 22 = dktX6_write_1 := dk_seg dksX6_write_0 22 rfl rfl
theorem dksX6_write_2 : cX6_write.data.toList.drop 46 = dktX6_write_2 := dk_seg dksX6_write_1 24 rfl rfl
theorem dksX6_write_3 : cX6_write.data.toList.drop 68 = dktX6_write_3 := dk_seg dksX6_write_2 22 rfl rfl
theorem dksX6_write_4 : cX6_write.data.toList.drop 90 = dktX6_write_4 := dk_seg dksX6_write_3 22 rfl rfl
theorem dX6_write_0 : decode cX6_write 0 = .ok (.aload_n 1, 1) := dk_43 (dk_at dksX6_write_0 0 rfl rfl)
theorem dX6_write_1 : decode cX6_write 1 = .ok (.aload_n 0, 1) := dk_42 (dk_at dksX6_write_0 1 rfl rfl)
theorem dX6_write_2 : decode cX6_write 2 = .ok (.getfield 22, 3) := dk_180 0 22 (dk_at dksX6_write_0 2 rfl rfl)
theorem dX6_write_5 : decode cX6_write 5 = .ok (.invokevirtual 108, 3) := dk_182 0 108 (dk_at dksX6_write_0 5 rfl rfl)
theorem dX6_write_8 : decode cX6_write 8 = .ok (.bipush 64, 2) := dk_16 64 (dk_at dksX6_write_0 8 rfl rfl)
theorem dX6_write_10 : decode cX6_write 10 = .ok (.invokevirtual 114, 3) := dk_182 0 114 (dk_at dksX6_write_0 10 rfl rfl)
theorem dX6_write_13 : decode cX6_write 13 = .ok (.aload_n 0, 1) := dk_42 (dk_at dksX6_write_0 13 rfl rfl)
theorem dX6_write_14 : decode cX6_write 14 = .ok (.getfield 25, 3) := dk_180 0 25 (dk_at dksX6_write_0 14 rfl rfl)
theorem dX6_write_17 : decode cX6_write 17 = .ok (.invokevirtual 108, 3) := dk_182 0 108 (dk_at dksX6_write_0 17 rfl rfl)
theorem dX6_write_20 : decode cX6_write 20 = .ok (.bipush 32, 2) := dk_16 32 (dk_at dksX6_write_0 20 rfl rfl)
theorem dX6_write_22 : decode cX6_write 22 = .ok (.invokevirtual 114, 3) := dk_182 0 114 (dk_at dksX6_write_1 0 rfl rfl)
theorem dX6_write_25 : decode cX6_write 25 = .ok (.aload_n 0, 1) := dk_42 (dk_at dksX6_write_1 3 rfl rfl)
theorem dX6_write_26 : decode cX6_write 26 = .ok (.getfield 28, 3) := dk_180 0 28 (dk_at dksX6_write_1 4 rfl rfl)
theorem dX6_write_29 : decode cX6_write 29 = .ok (.invokevirtual 108, 3) := dk_182 0 108 (dk_at dksX6_write_1 7 rfl rfl)
theorem dX6_write_32 : decode cX6_write 32 = .ok (.pop, 1) := dk_87 (dk_at dksX6_write_1 10 rfl rfl)
theorem dX6_write_33 : decode cX6_write 33 = .ok (.aload_n 0, 1) := dk_42 (dk_at dksX6_write_1 11 rfl rfl)
theorem dX6_write_34 : decode cX6_write 34 = .ok (.getfield 37, 3) := dk_180 0 37 (dk_at dksX6_write_1 12 rfl rfl)
theorem dX6_write_37 : decode cX6_write 37 = .ok (.ifCond .le 17, 3) := dk_158 0 17 (dk_at dksX6_write_1 15 rfl rfl)
theorem dX6_write_40 : decode cX6_write 40 = .ok (.aload_n 1, 1) := dk_43 (dk_at dksX6_write_1 18 rfl rfl)
theorem dX6_write_41 : decode cX6_write 41 = .ok (.bipush 47, 2) := dk_16 47 (dk_at dksX6_write_1 19 rfl rfl)
theorem dX6_write_43 : decode cX6_write 43 = .ok (.invokevirtual 114, 3) := dk_182 0 114 (dk_at dksX6_write_1 21 rfl rfl)
theorem dX6_write_46 : decode cX6_write 46 = .ok (.aload_n 0, 1) := dk_42 (dk_at dksX6_write_2 0 rfl rfl)
theorem dX6_write_47 : decode cX6_write 47 = .ok (.getfield 37, 3) := dk_180 0 37 (dk_at dksX6_write_2 1 rfl rfl)
theorem dX6_write_50 : decode cX6_write 50 = .ok (.invokevirtual 108, 3) := dk_182 0 108 (dk_at dksX6_write_2 4 rfl rfl)
theorem dX6_write_53 : decode cX6_write 53 = .ok (.pop, 1) := dk_87 (dk_at dksX6_write_2 7 rfl rfl)
theorem dX6_write_54 : decode cX6_write 54 = .ok (.aload_n 0, 1) := dk_42 (dk_at dksX6_write_2 8 rfl rfl)
theorem dX6_write_55 : decode cX6_write 55 = .ok (.invokevirtual 104, 3) := dk_182 0 104 (dk_at dksX6_write_2 9 rfl rfl)
theorem dX6_write_58 : decode cX6_write 58 = .ok (.ifCond .eq 17, 3) := dk_153 0 17 (dk_at dksX6_write_2 12 rfl rfl)
theorem dX6_write_61 : decode cX6_write 61 = .ok (.aload_n 1, 1) := dk_43 (dk_at dksX6_write_2 15 rfl rfl)
theorem dX6_write_62 : decode cX6_write 62 = .ok (.ldc 117, 2) := dk_18 117 (dk_at dksX6_write_2 16 rfl rfl)
theorem dX6_write_64 : decode cX6_write 64 = .ok (.invokevirtual 119, 3) := dk_182 0 119 (dk_at dksX6_write_2 18 rfl rfl)
theorem dX6_write_67 : decode cX6_write 67 = .ok (.aload_n 0, 1) := dk_42 (dk_at dksX6_write_2 21 rfl rfl)
theorem dX6_write_68 : decode cX6_write 68 = .ok (.getfield 15, 3) := dk_180 0 15 (dk_at dksX6_write_3 0 rfl rfl)
theorem dX6_write_71 : decode cX6_write 71 = .ok (.invokevirtual 108, 3) := dk_182 0 108 (dk_at dksX6_write_3 3 rfl rfl)
theorem dX6_write_74 : decode cX6_write 74 = .ok (.pop, 1) := dk_87 (dk_at dksX6_write_3 6 rfl rfl)
theorem dX6_write_75 : decode cX6_write 75 = .ok (.aload_n 1, 1) := dk_43 (dk_at dksX6_write_3 7 rfl rfl)
theorem dX6_write_76 : decode cX6_write 76 = .ok (.aload_n 0, 1) := dk_42 (dk_at dksX6_write_3 8 rfl rfl)
theorem dX6_write_77 : decode cX6_write 77 = .ok (.invokevirtual 122, 3) := dk_182 0 122 (dk_at dksX6_write_3 9 rfl rfl)
theorem dX6_write_80 : decode cX6_write 80 = .ok (.ifCond .eq 8, 3) := dk_153 0 8 (dk_at dksX6_write_3 12 rfl rfl)
theorem dX6_write_83 : decode cX6_write 83 = .ok (.ldc 125, 2) := dk_18 125 (dk_at dksX6_write_3 15 rfl rfl)
theorem dX6_write_85 : decode cX6_write 85 = .ok (.goto 5, 3) := dk_167 0 5 (dk_at dksX6_write_3 17 rfl rfl)
theorem dX6_write_88 : decode cX6_write 88 = .ok (.ldc 127, 2) := dk_18 127 (dk_at dksX6_write_3 20 rfl rfl)
theorem dX6_write_90 : decode cX6_write 90 = .ok (.invokevirtual 119, 3) := dk_182 0 119 (dk_at dksX6_write_4 0 rfl rfl)
theorem dX6_write_93 : decode cX6_write 93 = .ok (.pop, 1) := dk_87 (dk_at dksX6_write_4 3 rfl rfl)
theorem dX6_write_94 : decode cX6_write 94 = .ok (.return_, 1) := dk_177 (dk_at dksX6_write_4 4 rfl rfl)
