/-! code and decode rows of X3 (claim/names) -/
set_option maxRecDepth 100000
abbrev cX3_init : ByteArray := prog_20_method_1_code
def yX3_init : MethodName := ⟨RX3, "<init>", "()V"⟩
def dkwX3_init_4 : List UInt8 := [5, 79, 132, 1, 1, 167, 255, 239, 177]
abbrev dktX3_init_4 : List UInt8 := dkwX3_init_4 ++ []
def dkwX3_init_3 : List UInt8 := [188, 10, 181, 0, 34, 42, 2, 181, 0, 37, 3, 60, 27, 8, 162, 0, 18, 42, 180, 0, 7, 8, 27, 96]
abbrev dktX3_init_3 : List UInt8 := dkwX3_init_3 ++ dktX3_init_4
def dkwX3_init_2 : List UInt8 := [16, 80, 188, 10, 181, 0, 25, 42, 16, 60, 188, 10, 181, 0, 28, 42, 6, 188, 10, 181, 0, 31, 42, 6]
abbrev dktX3_init_2 : List UInt8 := dkwX3_init_2 ++ dktX3_init_3
def dkwX3_init_1 : List UInt8 := [188, 10, 181, 0, 16, 42, 17, 3, 168, 188, 10, 181, 0, 19, 42, 16, 60, 188, 10, 181, 0, 22, 42]
abbrev dktX3_init_1 : List UInt8 := dkwX3_init_1 ++ dktX3_init_2
def dkwX3_init_0 : List UInt8 := [42, 183, 0, 1, 42, 16, 117, 188, 10, 181, 0, 7, 42, 16, 117, 188, 10, 181, 0, 13, 42, 16, 117]
abbrev dktX3_init_0 : List UInt8 := dkwX3_init_0 ++ dktX3_init_1
theorem dksX3_init_0 : cX3_init.data.toList.drop 0 = dktX3_init_0 := by decide +kernel
theorem dksX3_init_1 : cX3_init.data.toList.drop 23 = dktX3_init_1 := dk_seg dksX3_init_0 23 rfl rfl
theorem dksX3_init_2 : cX3_init.data.toList.drop 46 = dktX3_init_2 := dk_seg dksX3_init_1 23 rfl rfl
theorem dksX3_init_3 : cX3_init.data.toList.drop 70 = dktX3_init_3 := dk_seg dksX3_init_2 24 rfl rfl
theorem dksX3_init_4 : cX3_init.data.toList.drop 94 = dktX3_init_4 := dk_seg dksX3_init_3 24 rfl rfl
theorem dX3_init_0 : decode cX3_init 0 = .ok (.aload_n 0, 1) := dk_42 (dk_at dksX3_init_0 0 rfl rfl)
theorem dX3_init_1 : decode cX3_init 1 = .ok (.invokespecial 1, 3) := dk_183 0 1 (dk_at dksX3_init_0 1 rfl rfl)
theorem dX3_init_4 : decode cX3_init 4 = .ok (.aload_n 0, 1) := dk_42 (dk_at dksX3_init_0 4 rfl rfl)
theorem dX3_init_5 : decode cX3_init 5 = .ok (.bipush 117, 2) := dk_16 117 (dk_at dksX3_init_0 5 rfl rfl)
theorem dX3_init_7 : decode cX3_init 7 = .ok (.newarray .int, 2) := dk_188_10 (dk_at dksX3_init_0 7 rfl rfl)
theorem dX3_init_9 : decode cX3_init 9 = .ok (.putfield 7, 3) := dk_181 0 7 (dk_at dksX3_init_0 9 rfl rfl)
theorem dX3_init_12 : decode cX3_init 12 = .ok (.aload_n 0, 1) := dk_42 (dk_at dksX3_init_0 12 rfl rfl)
theorem dX3_init_13 : decode cX3_init 13 = .ok (.bipush 117, 2) := dk_16 117 (dk_at dksX3_init_0 13 rfl rfl)
theorem dX3_init_15 : decode cX3_init 15 = .ok (.newarray .int, 2) := dk_188_10 (dk_at dksX3_init_0 15 rfl rfl)
theorem dX3_init_17 : decode cX3_init 17 = .ok (.putfield 13, 3) := dk_181 0 13 (dk_at dksX3_init_0 17 rfl rfl)
theorem dX3_init_20 : decode cX3_init 20 = .ok (.aload_n 0, 1) := dk_42 (dk_at dksX3_init_0 20 rfl rfl)
theorem dX3_init_21 : decode cX3_init 21 = .ok (.bipush 117, 2) := dk_16 117 (dk_at dksX3_init_0 21 rfl rfl)
theorem dX3_init_23 : decode cX3_init 23 = .ok (.newarray .int, 2) := dk_188_10 (dk_at dksX3_init_1 0 rfl rfl)
theorem dX3_init_25 : decode cX3_init 25 = .ok (.putfield 16, 3) := dk_181 0 16 (dk_at dksX3_init_1 2 rfl rfl)
theorem dX3_init_28 : decode cX3_init 28 = .ok (.aload_n 0, 1) := dk_42 (dk_at dksX3_init_1 5 rfl rfl)
theorem dX3_init_29 : decode cX3_init 29 = .ok (.sipush 936, 3) := dk_17 3 168 (dk_at dksX3_init_1 6 rfl rfl)
theorem dX3_init_32 : decode cX3_init 32 = .ok (.newarray .int, 2) := dk_188_10 (dk_at dksX3_init_1 9 rfl rfl)
theorem dX3_init_34 : decode cX3_init 34 = .ok (.putfield 19, 3) := dk_181 0 19 (dk_at dksX3_init_1 11 rfl rfl)
theorem dX3_init_37 : decode cX3_init 37 = .ok (.aload_n 0, 1) := dk_42 (dk_at dksX3_init_1 14 rfl rfl)
theorem dX3_init_38 : decode cX3_init 38 = .ok (.bipush 60, 2) := dk_16 60 (dk_at dksX3_init_1 15 rfl rfl)
theorem dX3_init_40 : decode cX3_init 40 = .ok (.newarray .int, 2) := dk_188_10 (dk_at dksX3_init_1 17 rfl rfl)
theorem dX3_init_42 : decode cX3_init 42 = .ok (.putfield 22, 3) := dk_181 0 22 (dk_at dksX3_init_1 19 rfl rfl)
theorem dX3_init_45 : decode cX3_init 45 = .ok (.aload_n 0, 1) := dk_42 (dk_at dksX3_init_1 22 rfl rfl)
theorem dX3_init_46 : decode cX3_init 46 = .ok (.bipush 80, 2) := dk_16 80 (dk_at dksX3_init_2 0 rfl rfl)
theorem dX3_init_48 : decode cX3_init 48 = .ok (.newarray .int, 2) := dk_188_10 (dk_at dksX3_init_2 2 rfl rfl)
theorem dX3_init_50 : decode cX3_init 50 = .ok (.putfield 25, 3) := dk_181 0 25 (dk_at dksX3_init_2 4 rfl rfl)
theorem dX3_init_53 : decode cX3_init 53 = .ok (.aload_n 0, 1) := dk_42 (dk_at dksX3_init_2 7 rfl rfl)
theorem dX3_init_54 : decode cX3_init 54 = .ok (.bipush 60, 2) := dk_16 60 (dk_at dksX3_init_2 8 rfl rfl)
theorem dX3_init_56 : decode cX3_init 56 = .ok (.newarray .int, 2) := dk_188_10 (dk_at dksX3_init_2 10 rfl rfl)
theorem dX3_init_58 : decode cX3_init 58 = .ok (.putfield 28, 3) := dk_181 0 28 (dk_at dksX3_init_2 12 rfl rfl)
theorem dX3_init_61 : decode cX3_init 61 = .ok (.aload_n 0, 1) := dk_42 (dk_at dksX3_init_2 15 rfl rfl)
theorem dX3_init_62 : decode cX3_init 62 = .ok (.iconst 3, 1) := dk_6 (dk_at dksX3_init_2 16 rfl rfl)
theorem dX3_init_63 : decode cX3_init 63 = .ok (.newarray .int, 2) := dk_188_10 (dk_at dksX3_init_2 17 rfl rfl)
theorem dX3_init_65 : decode cX3_init 65 = .ok (.putfield 31, 3) := dk_181 0 31 (dk_at dksX3_init_2 19 rfl rfl)
theorem dX3_init_68 : decode cX3_init 68 = .ok (.aload_n 0, 1) := dk_42 (dk_at dksX3_init_2 22 rfl rfl)
theorem dX3_init_69 : decode cX3_init 69 = .ok (.iconst 3, 1) := dk_6 (dk_at dksX3_init_2 23 rfl rfl)
theorem dX3_init_70 : decode cX3_init 70 = .ok (.newarray .int, 2) := dk_188_10 (dk_at dksX3_init_3 0 rfl rfl)
theorem dX3_init_72 : decode cX3_init 72 = .ok (.putfield 34, 3) := dk_181 0 34 (dk_at dksX3_init_3 2 rfl rfl)
theorem dX3_init_75 : decode cX3_init 75 = .ok (.aload_n 0, 1) := dk_42 (dk_at dksX3_init_3 5 rfl rfl)
theorem dX3_init_76 : decode cX3_init 76 = .ok (.iconst (-1), 1) := dk_2 (dk_at dksX3_init_3 6 rfl rfl)
theorem dX3_init_77 : decode cX3_init 77 = .ok (.putfield 37, 3) := dk_181 0 37 (dk_at dksX3_init_3 7 rfl rfl)
theorem dX3_init_80 : decode cX3_init 80 = .ok (.iconst 0, 1) := dk_3 (dk_at dksX3_init_3 10 rfl rfl)
theorem dX3_init_81 : decode cX3_init 81 = .ok (.istore_n 1, 1) := dk_60 (dk_at dksX3_init_3 11 rfl rfl)
theorem dX3_init_82 : decode cX3_init 82 = .ok (.iload_n 1, 1) := dk_27 (dk_at dksX3_init_3 12 rfl rfl)
theorem dX3_init_83 : decode cX3_init 83 = .ok (.iconst 5, 1) := dk_8 (dk_at dksX3_init_3 13 rfl rfl)
theorem dX3_init_84 : decode cX3_init 84 = .ok (.if_icmp .ge 18, 3) := dk_162 0 18 (dk_at dksX3_init_3 14 rfl rfl)
theorem dX3_init_87 : decode cX3_init 87 = .ok (.aload_n 0, 1) := dk_42 (dk_at dksX3_init_3 17 rfl rfl)
theorem dX3_init_88 : decode cX3_init 88 = .ok (.getfield 7, 3) := dk_180 0 7 (dk_at dksX3_init_3 18 rfl rfl)
theorem dX3_init_91 : decode cX3_init 91 = .ok (.iconst 5, 1) := dk_8 (dk_at dksX3_init_3 21 rfl rfl)
theorem dX3_init_92 : decode cX3_init 92 = .ok (.iload_n 1, 1) := dk_27 (dk_at dksX3_init_3 22 rfl rfl)
theorem dX3_init_93 : decode cX3_init 93 = .ok (.iadd, 1) := dk_96 (dk_at dksX3_init_3 23 rfl rfl)
theorem dX3_init_94 : decode cX3_init 94 = .ok (.iconst 2, 1) := dk_5 (dk_at dksX3_init_4 0 rfl rfl)
theorem dX3_init_95 : decode cX3_init 95 = .ok (.iastore, 1) := dk_79 (dk_at dksX3_init_4 1 rfl rfl)
theorem dX3_init_96 : decode cX3_init 96 = .ok (.iinc 1 1, 3) := dk_132 1 1 (dk_at dksX3_init_4 2 rfl rfl)
theorem dX3_init_99 : decode cX3_init 99 = .ok (.goto (-17), 3) := dk_167 255 239 (dk_at dksX3_init_4 5 rfl rfl)
theorem dX3_init_102 : decode cX3_init 102 = .ok (.return_, 1) := dk_177 (dk_at dksX3_init_4 8 rfl rfl)
abbrev cX3_thrown : ByteArray := prog_20_method_2_code
def yX3_thrown : MethodName := ⟨RX3, "thrown", "()I"⟩
theorem dX3_thrown_0 : decode cX3_thrown 0 = .ok (.aload_n 0, 1) := by decide +kernel
theorem dX3_thrown_1 : decode cX3_thrown 1 = .ok (.getfield 41, 3) := by decide +kernel
theorem dX3_thrown_4 : decode cX3_thrown 4 = .ok (.ireturn, 1) := by decide +kernel
abbrev cX3_rate : ByteArray := prog_20_method_28_code
def yX3_rate : MethodName := ⟨RX3, "rate", "(II)I"⟩
def dkwX3_rate_2 : List UInt8 := [180, 0, 7, 8, 27, 96, 28, 79, 42, 29, 182, 0, 59, 172]
abbrev dktX3_rate_2 : List UInt8 := dkwX3_rate_2 ++ []
def dkwX3_rate_1 : List UInt8 := [16, 9, 184, 0, 70, 154, 0, 9, 42, 5, 182, 0, 67, 172, 42, 180, 0, 7, 8, 27, 96, 46, 62, 42]
abbrev dktX3_rate_1 : List UInt8 := dkwX3_rate_1 ++ dktX3_rate_2
def dkwX3_rate_0 : List UInt8 := [42, 3, 181, 0, 41, 42, 182, 0, 107, 27, 184, 0, 110, 154, 0, 9, 42, 4, 182, 0, 67, 172, 28, 4]
abbrev dktX3_rate_0 : List UInt8 := dkwX3_rate_0 ++ dktX3_rate_1
theorem dksX3_rate_0 : cX3_rate.data.toList.drop 0 = dktX3_rate_0 := by decide +kernel
theorem dksX3_rate_1 : cX3_rate.data.toList.drop 24 = dktX3_rate_1 := dk_seg dksX3_rate_0 24 rfl rfl
theorem dksX3_rate_2 : cX3_rate.data.toList.drop 48 = dktX3_rate_2 := dk_seg dksX3_rate_1 24 rfl rfl
theorem dX3_rate_0 : decode cX3_rate 0 = .ok (.aload_n 0, 1) := dk_42 (dk_at dksX3_rate_0 0 rfl rfl)
theorem dX3_rate_1 : decode cX3_rate 1 = .ok (.iconst 0, 1) := dk_3 (dk_at dksX3_rate_0 1 rfl rfl)
theorem dX3_rate_2 : decode cX3_rate 2 = .ok (.putfield 41, 3) := dk_181 0 41 (dk_at dksX3_rate_0 2 rfl rfl)
theorem dX3_rate_5 : decode cX3_rate 5 = .ok (.aload_n 0, 1) := dk_42 (dk_at dksX3_rate_0 5 rfl rfl)
theorem dX3_rate_6 : decode cX3_rate 6 = .ok (.invokevirtual 107, 3) := dk_182 0 107 (dk_at dksX3_rate_0 6 rfl rfl)
theorem dX3_rate_9 : decode cX3_rate 9 = .ok (.iload_n 1, 1) := dk_27 (dk_at dksX3_rate_0 9 rfl rfl)
theorem dX3_rate_10 : decode cX3_rate 10 = .ok (.invokestatic 110, 3) := dk_184 0 110 (dk_at dksX3_rate_0 10 rfl rfl)
theorem dX3_rate_13 : decode cX3_rate 13 = .ok (.ifCond .ne 9, 3) := dk_154 0 9 (dk_at dksX3_rate_0 13 rfl rfl)
theorem dX3_rate_16 : decode cX3_rate 16 = .ok (.aload_n 0, 1) := dk_42 (dk_at dksX3_rate_0 16 rfl rfl)
theorem dX3_rate_17 : decode cX3_rate 17 = .ok (.iconst 1, 1) := dk_4 (dk_at dksX3_rate_0 17 rfl rfl)
theorem dX3_rate_18 : decode cX3_rate 18 = .ok (.invokevirtual 67, 3) := dk_182 0 67 (dk_at dksX3_rate_0 18 rfl rfl)
theorem dX3_rate_21 : decode cX3_rate 21 = .ok (.ireturn, 1) := dk_172 (dk_at dksX3_rate_0 21 rfl rfl)
theorem dX3_rate_22 : decode cX3_rate 22 = .ok (.iload_n 2, 1) := dk_28 (dk_at dksX3_rate_0 22 rfl rfl)
theorem dX3_rate_23 : decode cX3_rate 23 = .ok (.iconst 1, 1) := dk_4 (dk_at dksX3_rate_0 23 rfl rfl)
theorem dX3_rate_24 : decode cX3_rate 24 = .ok (.bipush 9, 2) := dk_16 9 (dk_at dksX3_rate_1 0 rfl rfl)
theorem dX3_rate_26 : decode cX3_rate 26 = .ok (.invokestatic 70, 3) := dk_184 0 70 (dk_at dksX3_rate_1 2 rfl rfl)
theorem dX3_rate_29 : decode cX3_rate 29 = .ok (.ifCond .ne 9, 3) := dk_154 0 9 (dk_at dksX3_rate_1 5 rfl rfl)
theorem dX3_rate_32 : decode cX3_rate 32 = .ok (.aload_n 0, 1) := dk_42 (dk_at dksX3_rate_1 8 rfl rfl)
theorem dX3_rate_33 : decode cX3_rate 33 = .ok (.iconst 2, 1) := dk_5 (dk_at dksX3_rate_1 9 rfl rfl)
theorem dX3_rate_34 : decode cX3_rate 34 = .ok (.invokevirtual 67, 3) := dk_182 0 67 (dk_at dksX3_rate_1 10 rfl rfl)
theorem dX3_rate_37 : decode cX3_rate 37 = .ok (.ireturn, 1) := dk_172 (dk_at dksX3_rate_1 13 rfl rfl)
theorem dX3_rate_38 : decode cX3_rate 38 = .ok (.aload_n 0, 1) := dk_42 (dk_at dksX3_rate_1 14 rfl rfl)
theorem dX3_rate_39 : decode cX3_rate 39 = .ok (.getfield 7, 3) := dk_180 0 7 (dk_at dksX3_rate_1 15 rfl rfl)
theorem dX3_rate_42 : decode cX3_rate 42 = .ok (.iconst 5, 1) := dk_8 (dk_at dksX3_rate_1 18 rfl rfl)
theorem dX3_rate_43 : decode cX3_rate 43 = .ok (.iload_n 1, 1) := dk_27 (dk_at dksX3_rate_1 19 rfl rfl)
theorem dX3_rate_44 : decode cX3_rate 44 = .ok (.iadd, 1) := dk_96 (dk_at dksX3_rate_1 20 rfl rfl)
theorem dX3_rate_45 : decode cX3_rate 45 = .ok (.iaload, 1) := dk_46 (dk_at dksX3_rate_1 21 rfl rfl)
theorem dX3_rate_46 : decode cX3_rate 46 = .ok (.istore_n 3, 1) := dk_62 (dk_at dksX3_rate_1 22 rfl rfl)
theorem dX3_rate_47 : decode cX3_rate 47 = .ok (.aload_n 0, 1) := dk_42 (dk_at dksX3_rate_1 23 rfl rfl)
theorem dX3_rate_48 : decode cX3_rate 48 = .ok (.getfield 7, 3) := dk_180 0 7 (dk_at dksX3_rate_2 0 rfl rfl)
theorem dX3_rate_51 : decode cX3_rate 51 = .ok (.iconst 5, 1) := dk_8 (dk_at dksX3_rate_2 3 rfl rfl)
theorem dX3_rate_52 : decode cX3_rate 52 = .ok (.iload_n 1, 1) := dk_27 (dk_at dksX3_rate_2 4 rfl rfl)
theorem dX3_rate_53 : decode cX3_rate 53 = .ok (.iadd, 1) := dk_96 (dk_at dksX3_rate_2 5 rfl rfl)
theorem dX3_rate_54 : decode cX3_rate 54 = .ok (.iload_n 2, 1) := dk_28 (dk_at dksX3_rate_2 6 rfl rfl)
theorem dX3_rate_55 : decode cX3_rate 55 = .ok (.iastore, 1) := dk_79 (dk_at dksX3_rate_2 7 rfl rfl)
theorem dX3_rate_56 : decode cX3_rate 56 = .ok (.aload_n 0, 1) := dk_42 (dk_at dksX3_rate_2 8 rfl rfl)
theorem dX3_rate_57 : decode cX3_rate 57 = .ok (.iload_n 3, 1) := dk_29 (dk_at dksX3_rate_2 9 rfl rfl)
theorem dX3_rate_58 : decode cX3_rate 58 = .ok (.invokevirtual 59, 3) := dk_182 0 59 (dk_at dksX3_rate_2 10 rfl rfl)
theorem dX3_rate_61 : decode cX3_rate 61 = .ok (.ireturn, 1) := dk_172 (dk_at dksX3_rate_2 13 rfl rfl)
abbrev cX3_remembers : ByteArray := prog_20_method_5_code
def yX3_remembers : MethodName := ⟨RX3, "remembers", "()V"⟩
def dkwX3_remembers_1 : List UInt8 := [167, 255, 235, 177]
abbrev dktX3_remembers_1 : List UInt8 := dkwX3_remembers_1 ++ []
def dkwX3_remembers_0 : List UInt8 := [3, 60, 27, 16, 117, 162, 0, 21, 42, 180, 0, 13, 27, 42, 180, 0, 7, 27, 46, 79, 132, 1, 1]
abbrev dktX3_remembers_0 : List UInt8 := dkwX3_remembers_0 ++ dktX3_remembers_1
theorem dksX3_remembers_0 : cX3_remembers.data.toList.drop 0 = dktX3_remembers_0 := by decide +kernel
theorem dksX3_remembers_1 : cX3_remembers.data.toList.drop 23 = dktX3_remembers_1 := dk_seg dksX3_remembers_0 23 rfl rfl
theorem dX3_remembers_0 : decode cX3_remembers 0 = .ok (.iconst 0, 1) := dk_3 (dk_at dksX3_remembers_0 0 rfl rfl)
theorem dX3_remembers_1 : decode cX3_remembers 1 = .ok (.istore_n 1, 1) := dk_60 (dk_at dksX3_remembers_0 1 rfl rfl)
theorem dX3_remembers_2 : decode cX3_remembers 2 = .ok (.iload_n 1, 1) := dk_27 (dk_at dksX3_remembers_0 2 rfl rfl)
theorem dX3_remembers_3 : decode cX3_remembers 3 = .ok (.bipush 117, 2) := dk_16 117 (dk_at dksX3_remembers_0 3 rfl rfl)
theorem dX3_remembers_5 : decode cX3_remembers 5 = .ok (.if_icmp .ge 21, 3) := dk_162 0 21 (dk_at dksX3_remembers_0 5 rfl rfl)
theorem dX3_remembers_8 : decode cX3_remembers 8 = .ok (.aload_n 0, 1) := dk_42 (dk_at dksX3_remembers_0 8 rfl rfl)
theorem dX3_remembers_9 : decode cX3_remembers 9 = .ok (.getfield 13, 3) := dk_180 0 13 (dk_at dksX3_remembers_0 9 rfl rfl)
theorem dX3_remembers_12 : decode cX3_remembers 12 = .ok (.iload_n 1, 1) := dk_27 (dk_at dksX3_remembers_0 12 rfl rfl)
theorem dX3_remembers_13 : decode cX3_remembers 13 = .ok (.aload_n 0, 1) := dk_42 (dk_at dksX3_remembers_0 13 rfl rfl)
theorem dX3_remembers_14 : decode cX3_remembers 14 = .ok (.getfield 7, 3) := dk_180 0 7 (dk_at dksX3_remembers_0 14 rfl rfl)
theorem dX3_remembers_17 : decode cX3_remembers 17 = .ok (.iload_n 1, 1) := dk_27 (dk_at dksX3_remembers_0 17 rfl rfl)
theorem dX3_remembers_18 : decode cX3_remembers 18 = .ok (.iaload, 1) := dk_46 (dk_at dksX3_remembers_0 18 rfl rfl)
theorem dX3_remembers_19 : decode cX3_remembers 19 = .ok (.iastore, 1) := dk_79 (dk_at dksX3_remembers_0 19 rfl rfl)
theorem dX3_remembers_20 : decode cX3_remembers 20 = .ok (.iinc 1 1, 3) := dk_132 1 1 (dk_at dksX3_remembers_0 20 rfl rfl)
theorem dX3_remembers_23 : decode cX3_remembers 23 = .ok (.goto (-21), 3) := dk_167 255 235 (dk_at dksX3_remembers_1 0 rfl rfl)
theorem dX3_remembers_26 : decode cX3_remembers 26 = .ok (.return_, 1) := dk_177 (dk_at dksX3_remembers_1 3 rfl rfl)
abbrev cX3_isFair : ByteArray := prog_20_method_13_code
def yX3_isFair : MethodName := ⟨RX3, "isFair", "(I)Z"⟩
def dkwX3_isFair_0 : List UInt8 := [26, 3, 7, 184, 0, 70, 172]
abbrev dktX3_isFair_0 : List UInt8 := dkwX3_isFair_0 ++ []
theorem dksX3_isFair_0 : cX3_isFair.data.toList.drop 0 = dktX3_isFair_0 := by decide +kernel
theorem dX3_isFair_0 : decode cX3_isFair 0 = .ok (.iload_n 0, 1) := dk_26 (dk_at dksX3_isFair_0 0 rfl rfl)
theorem dX3_isFair_1 : decode cX3_isFair 1 = .ok (.iconst 0, 1) := dk_3 (dk_at dksX3_isFair_0 1 rfl rfl)
theorem dX3_isFair_2 : decode cX3_isFair 2 = .ok (.iconst 4, 1) := dk_7 (dk_at dksX3_isFair_0 2 rfl rfl)
theorem dX3_isFair_3 : decode cX3_isFair 3 = .ok (.invokestatic 70, 3) := dk_184 0 70 (dk_at dksX3_isFair_0 3 rfl rfl)
theorem dX3_isFair_6 : decode cX3_isFair 6 = .ok (.ireturn, 1) := dk_172 (dk_at dksX3_isFair_0 6 rfl rfl)
abbrev cX3_in : ByteArray := prog_20_method_4_code
def yX3_in : MethodName := ⟨RX3, "in", "(III)Z"⟩
def dkwX3_in_0 : List UInt8 := [26, 27, 161, 0, 12, 26, 28, 163, 0, 7, 4, 167, 0, 4, 3, 172]
abbrev dktX3_in_0 : List UInt8 := dkwX3_in_0 ++ []
theorem dksX3_in_0 : cX3_in.data.toList.drop 0 = dktX3_in_0 := by decide +kernel
theorem dX3_in_0 : decode cX3_in 0 = .ok (.iload_n 0, 1) := dk_26 (dk_at dksX3_in_0 0 rfl rfl)
theorem dX3_in_1 : decode cX3_in 1 = .ok (.iload_n 1, 1) := dk_27 (dk_at dksX3_in_0 1 rfl rfl)
theorem dX3_in_2 : decode cX3_in 2 = .ok (.if_icmp .lt 12, 3) := dk_161 0 12 (dk_at dksX3_in_0 2 rfl rfl)
theorem dX3_in_5 : decode cX3_in 5 = .ok (.iload_n 0, 1) := dk_26 (dk_at dksX3_in_0 5 rfl rfl)
theorem dX3_in_6 : decode cX3_in 6 = .ok (.iload_n 2, 1) := dk_28 (dk_at dksX3_in_0 6 rfl rfl)
theorem dX3_in_7 : decode cX3_in 7 = .ok (.if_icmp .gt 7, 3) := dk_163 0 7 (dk_at dksX3_in_0 7 rfl rfl)
theorem dX3_in_10 : decode cX3_in 10 = .ok (.iconst 1, 1) := dk_4 (dk_at dksX3_in_0 10 rfl rfl)
theorem dX3_in_11 : decode cX3_in 11 = .ok (.goto 4, 3) := dk_167 0 4 (dk_at dksX3_in_0 11 rfl rfl)
theorem dX3_in_14 : decode cX3_in 14 = .ok (.iconst 0, 1) := dk_3 (dk_at dksX3_in_0 14 rfl rfl)
theorem dX3_in_15 : decode cX3_in 15 = .ok (.ireturn, 1) := dk_172 (dk_at dksX3_in_0 15 rfl rfl)
abbrev cX3_fails : ByteArray := prog_20_method_3_code
def yX3_fails : MethodName := ⟨RX3, "fails", "(I)I"⟩
def dkwX3_fails_0 : List UInt8 := [42, 27, 181, 0, 41, 3, 172]
abbrev dktX3_fails_0 : List UInt8 := dkwX3_fails_0 ++ []
theorem dksX3_fails_0 : cX3_fails.data.toList.drop 0 = dktX3_fails_0 := by decide +kernel
theorem dX3_fails_0 : decode cX3_fails 0 = .ok (.aload_n 0, 1) := dk_42 (dk_at dksX3_fails_0 0 rfl rfl)
theorem dX3_fails_1 : decode cX3_fails 1 = .ok (.iload_n 1, 1) := dk_27 (dk_at dksX3_fails_0 1 rfl rfl)
theorem dX3_fails_2 : decode cX3_fails 2 = .ok (.putfield 41, 3) := dk_181 0 41 (dk_at dksX3_fails_0 2 rfl rfl)
theorem dX3_fails_5 : decode cX3_fails 5 = .ok (.iconst 0, 1) := dk_3 (dk_at dksX3_fails_0 5 rfl rfl)
theorem dX3_fails_6 : decode cX3_fails 6 = .ok (.ireturn, 1) := dk_172 (dk_at dksX3_fails_0 6 rfl rfl)
abbrev cX3_changed : ByteArray := prog_20_method_6_code
def yX3_changed : MethodName := ⟨RX3, "changed", "(I)I"⟩
def dkwX3_changed_3 : List UInt8 := [104, 28, 96, 42, 180, 0, 13, 28, 46, 79, 132, 2, 1, 167, 255, 225, 27, 172]
abbrev dktX3_changed_3 : List UInt8 := dkwX3_changed_3 ++ []
def dkwX3_changed_2 : List UInt8 := [96, 181, 0, 44, 3, 61, 28, 16, 117, 162, 0, 31, 42, 180, 0, 19, 16, 117, 42, 180, 0, 44, 4, 100]
abbrev dktX3_changed_2 : List UInt8 := dkwX3_changed_2 ++ dktX3_changed_3
def dkwX3_changed_1 : List UInt8 := [180, 0, 19, 28, 16, 117, 96, 46, 79, 132, 2, 1, 167, 255, 231, 167, 0, 13, 42, 89, 180, 0, 44, 4]
abbrev dktX3_changed_1 : List UInt8 := dkwX3_changed_1 ++ dktX3_changed_2
def dkwX3_changed_0 : List UInt8 := [42, 180, 0, 44, 16, 8, 160, 0, 36, 3, 61, 28, 17, 3, 51, 162, 0, 24, 42, 180, 0, 19, 28, 42]
abbrev dktX3_changed_0 : List UInt8 := dkwX3_changed_0 ++ dktX3_changed_1
theorem dksX3_changed_0 : cX3_changed.data.toList.drop 0 = dktX3_changed_0 := by decide +kernel
theorem dksX3_changed_1 : cX3_changed.data.toList.drop 24 = dktX3_changed_1 := dk_seg dksX3_changed_0 24 rfl rfl
theorem dksX3_changed_2 : cX3_changed.data.toList.drop 48 = dktX3_changed_2 := dk_seg dksX3_changed_1 24 rfl rfl
theorem dksX3_changed_3 : cX3_changed.data.toList.drop 72 = dktX3_changed_3 := dk_seg dksX3_changed_2 24 rfl rfl
theorem dX3_changed_0 : decode cX3_changed 0 = .ok (.aload_n 0, 1) := dk_42 (dk_at dksX3_changed_0 0 rfl rfl)
theorem dX3_changed_1 : decode cX3_changed 1 = .ok (.getfield 44, 3) := dk_180 0 44 (dk_at dksX3_changed_0 1 rfl rfl)
theorem dX3_changed_4 : decode cX3_changed 4 = .ok (.bipush 8, 2) := dk_16 8 (dk_at dksX3_changed_0 4 rfl rfl)
theorem dX3_changed_6 : decode cX3_changed 6 = .ok (.if_icmp .ne 36, 3) := dk_160 0 36 (dk_at dksX3_changed_0 6 rfl rfl)
theorem dX3_changed_9 : decode cX3_changed 9 = .ok (.iconst 0, 1) := dk_3 (dk_at dksX3_changed_0 9 rfl rfl)
theorem dX3_changed_10 : decode cX3_changed 10 = .ok (.istore_n 2, 1) := dk_61 (dk_at dksX3_changed_0 10 rfl rfl)
theorem dX3_changed_11 : decode cX3_changed 11 = .ok (.iload_n 2, 1) := dk_28 (dk_at dksX3_changed_0 11 rfl rfl)
theorem dX3_changed_12 : decode cX3_changed 12 = .ok (.sipush 819, 3) := dk_17 3 51 (dk_at dksX3_changed_0 12 rfl rfl)
theorem dX3_changed_15 : decode cX3_changed 15 = .ok (.if_icmp .ge 24, 3) := dk_162 0 24 (dk_at dksX3_changed_0 15 rfl rfl)
theorem dX3_changed_18 : decode cX3_changed 18 = .ok (.aload_n 0, 1) := dk_42 (dk_at dksX3_changed_0 18 rfl rfl)
theorem dX3_changed_19 : decode cX3_changed 19 = .ok (.getfield 19, 3) := dk_180 0 19 (dk_at dksX3_changed_0 19 rfl rfl)
theorem dX3_changed_22 : decode cX3_changed 22 = .ok (.iload_n 2, 1) := dk_28 (dk_at dksX3_changed_0 22 rfl rfl)
theorem dX3_changed_23 : decode cX3_changed 23 = .ok (.aload_n 0, 1) := dk_42 (dk_at dksX3_changed_0 23 rfl rfl)
theorem dX3_changed_24 : decode cX3_changed 24 = .ok (.getfield 19, 3) := dk_180 0 19 (dk_at dksX3_changed_1 0 rfl rfl)
theorem dX3_changed_27 : decode cX3_changed 27 = .ok (.iload_n 2, 1) := dk_28 (dk_at dksX3_changed_1 3 rfl rfl)
theorem dX3_changed_28 : decode cX3_changed 28 = .ok (.bipush 117, 2) := dk_16 117 (dk_at dksX3_changed_1 4 rfl rfl)
theorem dX3_changed_30 : decode cX3_changed 30 = .ok (.iadd, 1) := dk_96 (dk_at dksX3_changed_1 6 rfl rfl)
theorem dX3_changed_31 : decode cX3_changed 31 = .ok (.iaload, 1) := dk_46 (dk_at dksX3_changed_1 7 rfl rfl)
theorem dX3_changed_32 : decode cX3_changed 32 = .ok (.iastore, 1) := dk_79 (dk_at dksX3_changed_1 8 rfl rfl)
theorem dX3_changed_33 : decode cX3_changed 33 = .ok (.iinc 2 1, 3) := dk_132 2 1 (dk_at dksX3_changed_1 9 rfl rfl)
theorem dX3_changed_36 : decode cX3_changed 36 = .ok (.goto (-25), 3) := dk_167 255 231 (dk_at dksX3_changed_1 12 rfl rfl)
theorem dX3_changed_39 : decode cX3_changed 39 = .ok (.goto 13, 3) := dk_167 0 13 (dk_at dksX3_changed_1 15 rfl rfl)
theorem dX3_changed_42 : decode cX3_changed 42 = .ok (.aload_n 0, 1) := dk_42 (dk_at dksX3_changed_1 18 rfl rfl)
theorem dX3_changed_43 : decode cX3_changed 43 = .ok (.dup, 1) := dk_89 (dk_at dksX3_changed_1 19 rfl rfl)
theorem dX3_changed_44 : decode cX3_changed 44 = .ok (.getfield 44, 3) := dk_180 0 44 (dk_at dksX3_changed_1 20 rfl rfl)
theorem dX3_changed_47 : decode cX3_changed 47 = .ok (.iconst 1, 1) := dk_4 (dk_at dksX3_changed_1 23 rfl rfl)
theorem dX3_changed_48 : decode cX3_changed 48 = .ok (.iadd, 1) := dk_96 (dk_at dksX3_changed_2 0 rfl rfl)
theorem dX3_changed_49 : decode cX3_changed 49 = .ok (.putfield 44, 3) := dk_181 0 44 (dk_at dksX3_changed_2 1 rfl rfl)
theorem dX3_changed_52 : decode cX3_changed 52 = .ok (.iconst 0, 1) := dk_3 (dk_at dksX3_changed_2 4 rfl rfl)
theorem dX3_changed_53 : decode cX3_changed 53 = .ok (.istore_n 2, 1) := dk_61 (dk_at dksX3_changed_2 5 rfl rfl)
theorem dX3_changed_54 : decode cX3_changed 54 = .ok (.iload_n 2, 1) := dk_28 (dk_at dksX3_changed_2 6 rfl rfl)
theorem dX3_changed_55 : decode cX3_changed 55 = .ok (.bipush 117, 2) := dk_16 117 (dk_at dksX3_changed_2 7 rfl rfl)
theorem dX3_changed_57 : decode cX3_changed 57 = .ok (.if_icmp .ge 31, 3) := dk_162 0 31 (dk_at dksX3_changed_2 9 rfl rfl)
theorem dX3_changed_60 : decode cX3_changed 60 = .ok (.aload_n 0, 1) := dk_42 (dk_at dksX3_changed_2 12 rfl rfl)
theorem dX3_changed_61 : decode cX3_changed 61 = .ok (.getfield 19, 3) := dk_180 0 19 (dk_at dksX3_changed_2 13 rfl rfl)
theorem dX3_changed_64 : decode cX3_changed 64 = .ok (.bipush 117, 2) := dk_16 117 (dk_at dksX3_changed_2 16 rfl rfl)
theorem dX3_changed_66 : decode cX3_changed 66 = .ok (.aload_n 0, 1) := dk_42 (dk_at dksX3_changed_2 18 rfl rfl)
theorem dX3_changed_67 : decode cX3_changed 67 = .ok (.getfield 44, 3) := dk_180 0 44 (dk_at dksX3_changed_2 19 rfl rfl)
theorem dX3_changed_70 : decode cX3_changed 70 = .ok (.iconst 1, 1) := dk_4 (dk_at dksX3_changed_2 22 rfl rfl)
theorem dX3_changed_71 : decode cX3_changed 71 = .ok (.isub, 1) := dk_100 (dk_at dksX3_changed_2 23 rfl rfl)
theorem dX3_changed_72 : decode cX3_changed 72 = .ok (.imul, 1) := dk_104 (dk_at dksX3_changed_3 0 rfl rfl)
theorem dX3_changed_73 : decode cX3_changed 73 = .ok (.iload_n 2, 1) := dk_28 (dk_at dksX3_changed_3 1 rfl rfl)
theorem dX3_changed_74 : decode cX3_changed 74 = .ok (.iadd, 1) := dk_96 (dk_at dksX3_changed_3 2 rfl rfl)
theorem dX3_changed_75 : decode cX3_changed 75 = .ok (.aload_n 0, 1) := dk_42 (dk_at dksX3_changed_3 3 rfl rfl)
theorem dX3_changed_76 : decode cX3_changed 76 = .ok (.getfield 13, 3) := dk_180 0 13 (dk_at dksX3_changed_3 4 rfl rfl)
theorem dX3_changed_79 : decode cX3_changed 79 = .ok (.iload_n 2, 1) := dk_28 (dk_at dksX3_changed_3 7 rfl rfl)
theorem dX3_changed_80 : decode cX3_changed 80 = .ok (.iaload, 1) := dk_46 (dk_at dksX3_changed_3 8 rfl rfl)
theorem dX3_changed_81 : decode cX3_changed 81 = .ok (.iastore, 1) := dk_79 (dk_at dksX3_changed_3 9 rfl rfl)
theorem dX3_changed_82 : decode cX3_changed 82 = .ok (.iinc 2 1, 3) := dk_132 2 1 (dk_at dksX3_changed_3 10 rfl rfl)
theorem dX3_changed_85 : decode cX3_changed 85 = .ok (.goto (-31), 3) := dk_167 255 225 (dk_at dksX3_changed_3 13 rfl rfl)
theorem dX3_changed_88 : decode cX3_changed 88 = .ok (.iload_n 1, 1) := dk_27 (dk_at dksX3_changed_3 16 rfl rfl)
theorem dX3_changed_89 : decode cX3_changed 89 = .ok (.ireturn, 1) := dk_172 (dk_at dksX3_changed_3 17 rfl rfl)
abbrev cX3_trader : ByteArray := prog_20_method_29_code
def yX3_trader : MethodName := ⟨RX3, "trader", "(III)I"⟩
def dkwX3_trader_6 : List UInt8 := [21, 4, 182, 0, 59, 172]
abbrev dktX3_trader_6 : List UInt8 := dkwX3_trader_6 ++ []
def dkwX3_trader_5 : List UInt8 := [79, 42, 180, 0, 7, 16, 95, 21, 4, 96, 2, 79, 42, 180, 0, 7, 4, 21, 4, 4, 96, 79, 42]
abbrev dktX3_trader_5 : List UInt8 := dkwX3_trader_5 ++ dktX3_trader_6
def dkwX3_trader_4 : List UInt8 := [96, 28, 79, 42, 180, 0, 7, 16, 55, 21, 4, 96, 29, 79, 42, 180, 0, 7, 16, 65, 21, 4, 96, 2]
abbrev dktX3_trader_4 : List UInt8 := dkwX3_trader_4 ++ dktX3_trader_5
def dkwX3_trader_3 : List UInt8 := [6, 182, 0, 113, 172, 42, 180, 0, 7, 16, 15, 21, 4, 96, 27, 79, 42, 180, 0, 7, 16, 25, 21, 4]
abbrev dktX3_trader_3 : List UInt8 := dkwX3_trader_3 ++ dktX3_trader_4
def dkwX3_trader_2 : List UInt8 := [172, 42, 180, 0, 7, 4, 46, 54, 4, 21, 4, 16, 10, 160, 0, 16, 42, 42, 4, 16, 10, 182, 0, 95]
abbrev dktX3_trader_2 : List UInt8 := dkwX3_trader_2 ++ dktX3_trader_3
def dkwX3_trader_1 : List UInt8 := [17, 3, 231, 184, 0, 70, 153, 0, 13, 29, 16, 253, 6, 184, 0, 70, 154, 0, 9, 42, 5, 182, 0, 67]
abbrev dktX3_trader_1 : List UInt8 := dkwX3_trader_1 ++ dktX3_trader_2
def dkwX3_trader_0 : List UInt8 := [42, 3, 181, 0, 41, 42, 182, 0, 107, 27, 184, 0, 110, 154, 0, 9, 42, 4, 182, 0, 67, 172, 28, 3]
abbrev dktX3_trader_0 : List UInt8 := dkwX3_trader_0 ++ dktX3_trader_1
theorem dksX3_trader_0 : cX3_trader.data.toList.drop 0 = dktX3_trader_0 := by decide +kernel
theorem dksX3_trader_1 : cX3_trader.data.toList.drop 24 = dktX3_trader_1 := dk_seg dksX3_trader_0 24 rfl rfl
theorem dksX3_trader_2 : cX3_trader.data.toList.drop 48 = dktX3_trader_2 := dk_seg dksX3_trader_1 24 rfl rfl
theorem dksX3_trader_3 : cX3_trader.data.toList.drop 72 = dktX3_trader_3 := dk_seg dksX3_trader_2 24 rfl rfl
theorem dksX3_trader_4 : cX3_trader.data.toList.drop 96 = dktX3_trader_4 := dk_seg dksX3_trader_3 24 rfl rfl
theorem dksX3_trader_5 : cX3_trader.data.toList.drop 120 = dktX3_trader_5 := dk_seg dksX3_trader_4 24 rfl rfl
theorem dksX3_trader_6 : cX3_trader.data.toList.drop 143 = dktX3_trader_6 := dk_seg dksX3_trader_5 23 rfl rfl
theorem dX3_trader_0 : decode cX3_trader 0 = .ok (.aload_n 0, 1) := dk_42 (dk_at dksX3_trader_0 0 rfl rfl)
theorem dX3_trader_1 : decode cX3_trader 1 = .ok (.iconst 0, 1) := dk_3 (dk_at dksX3_trader_0 1 rfl rfl)
theorem dX3_trader_2 : decode cX3_trader 2 = .ok (.putfield 41, 3) := dk_181 0 41 (dk_at dksX3_trader_0 2 rfl rfl)
theorem dX3_trader_5 : decode cX3_trader 5 = .ok (.aload_n 0, 1) := dk_42 (dk_at dksX3_trader_0 5 rfl rfl)
theorem dX3_trader_6 : decode cX3_trader 6 = .ok (.invokevirtual 107, 3) := dk_182 0 107 (dk_at dksX3_trader_0 6 rfl rfl)
theorem dX3_trader_9 : decode cX3_trader 9 = .ok (.iload_n 1, 1) := dk_27 (dk_at dksX3_trader_0 9 rfl rfl)
theorem dX3_trader_10 : decode cX3_trader 10 = .ok (.invokestatic 110, 3) := dk_184 0 110 (dk_at dksX3_trader_0 10 rfl rfl)
theorem dX3_trader_13 : decode cX3_trader 13 = .ok (.ifCond .ne 9, 3) := dk_154 0 9 (dk_at dksX3_trader_0 13 rfl rfl)
theorem dX3_trader_16 : decode cX3_trader 16 = .ok (.aload_n 0, 1) := dk_42 (dk_at dksX3_trader_0 16 rfl rfl)
theorem dX3_trader_17 : decode cX3_trader 17 = .ok (.iconst 1, 1) := dk_4 (dk_at dksX3_trader_0 17 rfl rfl)
theorem dX3_trader_18 : decode cX3_trader 18 = .ok (.invokevirtual 67, 3) := dk_182 0 67 (dk_at dksX3_trader_0 18 rfl rfl)
theorem dX3_trader_21 : decode cX3_trader 21 = .ok (.ireturn, 1) := dk_172 (dk_at dksX3_trader_0 21 rfl rfl)
theorem dX3_trader_22 : decode cX3_trader 22 = .ok (.iload_n 2, 1) := dk_28 (dk_at dksX3_trader_0 22 rfl rfl)
theorem dX3_trader_23 : decode cX3_trader 23 = .ok (.iconst 0, 1) := dk_3 (dk_at dksX3_trader_0 23 rfl rfl)
theorem dX3_trader_24 : decode cX3_trader 24 = .ok (.sipush 999, 3) := dk_17 3 231 (dk_at dksX3_trader_1 0 rfl rfl)
theorem dX3_trader_27 : decode cX3_trader 27 = .ok (.invokestatic 70, 3) := dk_184 0 70 (dk_at dksX3_trader_1 3 rfl rfl)
theorem dX3_trader_30 : decode cX3_trader 30 = .ok (.ifCond .eq 13, 3) := dk_153 0 13 (dk_at dksX3_trader_1 6 rfl rfl)
theorem dX3_trader_33 : decode cX3_trader 33 = .ok (.iload_n 3, 1) := dk_29 (dk_at dksX3_trader_1 9 rfl rfl)
theorem dX3_trader_34 : decode cX3_trader 34 = .ok (.bipush (-3), 2) := dk_16 253 (dk_at dksX3_trader_1 10 rfl rfl)
theorem dX3_trader_36 : decode cX3_trader 36 = .ok (.iconst 3, 1) := dk_6 (dk_at dksX3_trader_1 12 rfl rfl)
theorem dX3_trader_37 : decode cX3_trader 37 = .ok (.invokestatic 70, 3) := dk_184 0 70 (dk_at dksX3_trader_1 13 rfl rfl)
theorem dX3_trader_40 : decode cX3_trader 40 = .ok (.ifCond .ne 9, 3) := dk_154 0 9 (dk_at dksX3_trader_1 16 rfl rfl)
theorem dX3_trader_43 : decode cX3_trader 43 = .ok (.aload_n 0, 1) := dk_42 (dk_at dksX3_trader_1 19 rfl rfl)
theorem dX3_trader_44 : decode cX3_trader 44 = .ok (.iconst 2, 1) := dk_5 (dk_at dksX3_trader_1 20 rfl rfl)
theorem dX3_trader_45 : decode cX3_trader 45 = .ok (.invokevirtual 67, 3) := dk_182 0 67 (dk_at dksX3_trader_1 21 rfl rfl)
theorem dX3_trader_48 : decode cX3_trader 48 = .ok (.ireturn, 1) := dk_172 (dk_at dksX3_trader_2 0 rfl rfl)
theorem dX3_trader_49 : decode cX3_trader 49 = .ok (.aload_n 0, 1) := dk_42 (dk_at dksX3_trader_2 1 rfl rfl)
theorem dX3_trader_50 : decode cX3_trader 50 = .ok (.getfield 7, 3) := dk_180 0 7 (dk_at dksX3_trader_2 2 rfl rfl)
theorem dX3_trader_53 : decode cX3_trader 53 = .ok (.iconst 1, 1) := dk_4 (dk_at dksX3_trader_2 5 rfl rfl)
theorem dX3_trader_54 : decode cX3_trader 54 = .ok (.iaload, 1) := dk_46 (dk_at dksX3_trader_2 6 rfl rfl)
theorem dX3_trader_55 : decode cX3_trader 55 = .ok (.istore 4, 2) := dk_54 4 (dk_at dksX3_trader_2 7 rfl rfl)
theorem dX3_trader_57 : decode cX3_trader 57 = .ok (.iload 4, 2) := dk_21 4 (dk_at dksX3_trader_2 9 rfl rfl)
theorem dX3_trader_59 : decode cX3_trader 59 = .ok (.bipush 10, 2) := dk_16 10 (dk_at dksX3_trader_2 11 rfl rfl)
theorem dX3_trader_61 : decode cX3_trader 61 = .ok (.if_icmp .ne 16, 3) := dk_160 0 16 (dk_at dksX3_trader_2 13 rfl rfl)
theorem dX3_trader_64 : decode cX3_trader 64 = .ok (.aload_n 0, 1) := dk_42 (dk_at dksX3_trader_2 16 rfl rfl)
theorem dX3_trader_65 : decode cX3_trader 65 = .ok (.aload_n 0, 1) := dk_42 (dk_at dksX3_trader_2 17 rfl rfl)
theorem dX3_trader_66 : decode cX3_trader 66 = .ok (.iconst 1, 1) := dk_4 (dk_at dksX3_trader_2 18 rfl rfl)
theorem dX3_trader_67 : decode cX3_trader 67 = .ok (.bipush 10, 2) := dk_16 10 (dk_at dksX3_trader_2 19 rfl rfl)
theorem dX3_trader_69 : decode cX3_trader 69 = .ok (.invokevirtual 95, 3) := dk_182 0 95 (dk_at dksX3_trader_2 21 rfl rfl)
theorem dX3_trader_72 : decode cX3_trader 72 = .ok (.iconst 3, 1) := dk_6 (dk_at dksX3_trader_3 0 rfl rfl)
theorem dX3_trader_73 : decode cX3_trader 73 = .ok (.invokevirtual 113, 3) := dk_182 0 113 (dk_at dksX3_trader_3 1 rfl rfl)
theorem dX3_trader_76 : decode cX3_trader 76 = .ok (.ireturn, 1) := dk_172 (dk_at dksX3_trader_3 4 rfl rfl)
theorem dX3_trader_77 : decode cX3_trader 77 = .ok (.aload_n 0, 1) := dk_42 (dk_at dksX3_trader_3 5 rfl rfl)
theorem dX3_trader_78 : decode cX3_trader 78 = .ok (.getfield 7, 3) := dk_180 0 7 (dk_at dksX3_trader_3 6 rfl rfl)
theorem dX3_trader_81 : decode cX3_trader 81 = .ok (.bipush 15, 2) := dk_16 15 (dk_at dksX3_trader_3 9 rfl rfl)
theorem dX3_trader_83 : decode cX3_trader 83 = .ok (.iload 4, 2) := dk_21 4 (dk_at dksX3_trader_3 11 rfl rfl)
theorem dX3_trader_85 : decode cX3_trader 85 = .ok (.iadd, 1) := dk_96 (dk_at dksX3_trader_3 13 rfl rfl)
theorem dX3_trader_86 : decode cX3_trader 86 = .ok (.iload_n 1, 1) := dk_27 (dk_at dksX3_trader_3 14 rfl rfl)
theorem dX3_trader_87 : decode cX3_trader 87 = .ok (.iastore, 1) := dk_79 (dk_at dksX3_trader_3 15 rfl rfl)
theorem dX3_trader_88 : decode cX3_trader 88 = .ok (.aload_n 0, 1) := dk_42 (dk_at dksX3_trader_3 16 rfl rfl)
theorem dX3_trader_89 : decode cX3_trader 89 = .ok (.getfield 7, 3) := dk_180 0 7 (dk_at dksX3_trader_3 17 rfl rfl)
theorem dX3_trader_92 : decode cX3_trader 92 = .ok (.bipush 25, 2) := dk_16 25 (dk_at dksX3_trader_3 20 rfl rfl)
theorem dX3_trader_94 : decode cX3_trader 94 = .ok (.iload 4, 2) := dk_21 4 (dk_at dksX3_trader_3 22 rfl rfl)
theorem dX3_trader_96 : decode cX3_trader 96 = .ok (.iadd, 1) := dk_96 (dk_at dksX3_trader_4 0 rfl rfl)
theorem dX3_trader_97 : decode cX3_trader 97 = .ok (.iload_n 2, 1) := dk_28 (dk_at dksX3_trader_4 1 rfl rfl)
theorem dX3_trader_98 : decode cX3_trader 98 = .ok (.iastore, 1) := dk_79 (dk_at dksX3_trader_4 2 rfl rfl)
theorem dX3_trader_99 : decode cX3_trader 99 = .ok (.aload_n 0, 1) := dk_42 (dk_at dksX3_trader_4 3 rfl rfl)
theorem dX3_trader_100 : decode cX3_trader 100 = .ok (.getfield 7, 3) := dk_180 0 7 (dk_at dksX3_trader_4 4 rfl rfl)
theorem dX3_trader_103 : decode cX3_trader 103 = .ok (.bipush 55, 2) := dk_16 55 (dk_at dksX3_trader_4 7 rfl rfl)
theorem dX3_trader_105 : decode cX3_trader 105 = .ok (.iload 4, 2) := dk_21 4 (dk_at dksX3_trader_4 9 rfl rfl)
theorem dX3_trader_107 : decode cX3_trader 107 = .ok (.iadd, 1) := dk_96 (dk_at dksX3_trader_4 11 rfl rfl)
theorem dX3_trader_108 : decode cX3_trader 108 = .ok (.iload_n 3, 1) := dk_29 (dk_at dksX3_trader_4 12 rfl rfl)
theorem dX3_trader_109 : decode cX3_trader 109 = .ok (.iastore, 1) := dk_79 (dk_at dksX3_trader_4 13 rfl rfl)
theorem dX3_trader_110 : decode cX3_trader 110 = .ok (.aload_n 0, 1) := dk_42 (dk_at dksX3_trader_4 14 rfl rfl)
theorem dX3_trader_111 : decode cX3_trader 111 = .ok (.getfield 7, 3) := dk_180 0 7 (dk_at dksX3_trader_4 15 rfl rfl)
theorem dX3_trader_114 : decode cX3_trader 114 = .ok (.bipush 65, 2) := dk_16 65 (dk_at dksX3_trader_4 18 rfl rfl)
theorem dX3_trader_116 : decode cX3_trader 116 = .ok (.iload 4, 2) := dk_21 4 (dk_at dksX3_trader_4 20 rfl rfl)
theorem dX3_trader_118 : decode cX3_trader 118 = .ok (.iadd, 1) := dk_96 (dk_at dksX3_trader_4 22 rfl rfl)
theorem dX3_trader_119 : decode cX3_trader 119 = .ok (.iconst (-1), 1) := dk_2 (dk_at dksX3_trader_4 23 rfl rfl)
theorem dX3_trader_120 : decode cX3_trader 120 = .ok (.iastore, 1) := dk_79 (dk_at dksX3_trader_5 0 rfl rfl)
theorem dX3_trader_121 : decode cX3_trader 121 = .ok (.aload_n 0, 1) := dk_42 (dk_at dksX3_trader_5 1 rfl rfl)
theorem dX3_trader_122 : decode cX3_trader 122 = .ok (.getfield 7, 3) := dk_180 0 7 (dk_at dksX3_trader_5 2 rfl rfl)
theorem dX3_trader_125 : decode cX3_trader 125 = .ok (.bipush 95, 2) := dk_16 95 (dk_at dksX3_trader_5 5 rfl rfl)
theorem dX3_trader_127 : decode cX3_trader 127 = .ok (.iload 4, 2) := dk_21 4 (dk_at dksX3_trader_5 7 rfl rfl)
theorem dX3_trader_129 : decode cX3_trader 129 = .ok (.iadd, 1) := dk_96 (dk_at dksX3_trader_5 9 rfl rfl)
theorem dX3_trader_130 : decode cX3_trader 130 = .ok (.iconst (-1), 1) := dk_2 (dk_at dksX3_trader_5 10 rfl rfl)
theorem dX3_trader_131 : decode cX3_trader 131 = .ok (.iastore, 1) := dk_79 (dk_at dksX3_trader_5 11 rfl rfl)
theorem dX3_trader_132 : decode cX3_trader 132 = .ok (.aload_n 0, 1) := dk_42 (dk_at dksX3_trader_5 12 rfl rfl)
theorem dX3_trader_133 : decode cX3_trader 133 = .ok (.getfield 7, 3) := dk_180 0 7 (dk_at dksX3_trader_5 13 rfl rfl)
theorem dX3_trader_136 : decode cX3_trader 136 = .ok (.iconst 1, 1) := dk_4 (dk_at dksX3_trader_5 16 rfl rfl)
theorem dX3_trader_137 : decode cX3_trader 137 = .ok (.iload 4, 2) := dk_21 4 (dk_at dksX3_trader_5 17 rfl rfl)
theorem dX3_trader_139 : decode cX3_trader 139 = .ok (.iconst 1, 1) := dk_4 (dk_at dksX3_trader_5 19 rfl rfl)
theorem dX3_trader_140 : decode cX3_trader 140 = .ok (.iadd, 1) := dk_96 (dk_at dksX3_trader_5 20 rfl rfl)
theorem dX3_trader_141 : decode cX3_trader 141 = .ok (.iastore, 1) := dk_79 (dk_at dksX3_trader_5 21 rfl rfl)
theorem dX3_trader_142 : decode cX3_trader 142 = .ok (.aload_n 0, 1) := dk_42 (dk_at dksX3_trader_5 22 rfl rfl)
theorem dX3_trader_143 : decode cX3_trader 143 = .ok (.iload 4, 2) := dk_21 4 (dk_at dksX3_trader_6 0 rfl rfl)
theorem dX3_trader_145 : decode cX3_trader 145 = .ok (.invokevirtual 59, 3) := dk_182 0 59 (dk_at dksX3_trader_6 2 rfl rfl)
theorem dX3_trader_148 : decode cX3_trader 148 = .ok (.ireturn, 1) := dk_172 (dk_at dksX3_trader_6 5 rfl rfl)
abbrev cX3_refused : ByteArray := prog_20_method_7_code
def yX3_refused : MethodName := ⟨RX3, "refused", "(II)I"⟩
def dkwX3_refused_0 : List UInt8 := [42, 28, 181, 0, 47, 42, 3, 181, 0, 50, 42, 3, 181, 0, 53, 27, 172]
abbrev dktX3_refused_0 : List UInt8 := dkwX3_refused_0 ++ []
theorem dksX3_refused_0 : cX3_refused.data.toList.drop 0 = dktX3_refused_0 := by decide +kernel
theorem dX3_refused_0 : decode cX3_refused 0 = .ok (.aload_n 0, 1) := dk_42 (dk_at dksX3_refused_0 0 rfl rfl)
theorem dX3_refused_1 : decode cX3_refused 1 = .ok (.iload_n 2, 1) := dk_28 (dk_at dksX3_refused_0 1 rfl rfl)
theorem dX3_refused_2 : decode cX3_refused 2 = .ok (.putfield 47, 3) := dk_181 0 47 (dk_at dksX3_refused_0 2 rfl rfl)
theorem dX3_refused_5 : decode cX3_refused 5 = .ok (.aload_n 0, 1) := dk_42 (dk_at dksX3_refused_0 5 rfl rfl)
theorem dX3_refused_6 : decode cX3_refused 6 = .ok (.iconst 0, 1) := dk_3 (dk_at dksX3_refused_0 6 rfl rfl)
theorem dX3_refused_7 : decode cX3_refused 7 = .ok (.putfield 50, 3) := dk_181 0 50 (dk_at dksX3_refused_0 7 rfl rfl)
theorem dX3_refused_10 : decode cX3_refused 10 = .ok (.aload_n 0, 1) := dk_42 (dk_at dksX3_refused_0 10 rfl rfl)
theorem dX3_refused_11 : decode cX3_refused 11 = .ok (.iconst 0, 1) := dk_3 (dk_at dksX3_refused_0 11 rfl rfl)
theorem dX3_refused_12 : decode cX3_refused 12 = .ok (.putfield 53, 3) := dk_181 0 53 (dk_at dksX3_refused_0 12 rfl rfl)
theorem dX3_refused_15 : decode cX3_refused 15 = .ok (.iload_n 1, 1) := dk_27 (dk_at dksX3_refused_0 15 rfl rfl)
theorem dX3_refused_16 : decode cX3_refused 16 = .ok (.ireturn, 1) := dk_172 (dk_at dksX3_refused_0 16 rfl rfl)
abbrev cX3_ends : ByteArray := prog_20_method_10_code
def yX3_ends : MethodName := ⟨RX3, "ends", "(II)I"⟩
def dkwX3_ends_1 : List UInt8 := [172]
abbrev dktX3_ends_1 : List UInt8 := dkwX3_ends_1 ++ []
def dkwX3_ends_0 : List UInt8 := [27, 154, 0, 12, 42, 42, 180, 0, 56, 182, 0, 59, 172, 42, 3, 27, 182, 0, 63, 42, 28, 182, 0, 67]
abbrev dktX3_ends_0 : List UInt8 := dkwX3_ends_0 ++ dktX3_ends_1
theorem dksX3_ends_0 : cX3_ends.data.toList.drop 0 = dktX3_ends_0 := by decide +kernel
theorem dksX3_ends_1 : cX3_ends.data.toList.drop 24 = dktX3_ends_1 := dk_seg dksX3_ends_0 24 rfl rfl
theorem dX3_ends_0 : decode cX3_ends 0 = .ok (.iload_n 1, 1) := dk_27 (dk_at dksX3_ends_0 0 rfl rfl)
theorem dX3_ends_1 : decode cX3_ends 1 = .ok (.ifCond .ne 12, 3) := dk_154 0 12 (dk_at dksX3_ends_0 1 rfl rfl)
theorem dX3_ends_4 : decode cX3_ends 4 = .ok (.aload_n 0, 1) := dk_42 (dk_at dksX3_ends_0 4 rfl rfl)
theorem dX3_ends_5 : decode cX3_ends 5 = .ok (.aload_n 0, 1) := dk_42 (dk_at dksX3_ends_0 5 rfl rfl)
theorem dX3_ends_6 : decode cX3_ends 6 = .ok (.getfield 56, 3) := dk_180 0 56 (dk_at dksX3_ends_0 6 rfl rfl)
theorem dX3_ends_9 : decode cX3_ends 9 = .ok (.invokevirtual 59, 3) := dk_182 0 59 (dk_at dksX3_ends_0 9 rfl rfl)
theorem dX3_ends_12 : decode cX3_ends 12 = .ok (.ireturn, 1) := dk_172 (dk_at dksX3_ends_0 12 rfl rfl)
theorem dX3_ends_13 : decode cX3_ends 13 = .ok (.aload_n 0, 1) := dk_42 (dk_at dksX3_ends_0 13 rfl rfl)
theorem dX3_ends_14 : decode cX3_ends 14 = .ok (.iconst 0, 1) := dk_3 (dk_at dksX3_ends_0 14 rfl rfl)
theorem dX3_ends_15 : decode cX3_ends 15 = .ok (.iload_n 1, 1) := dk_27 (dk_at dksX3_ends_0 15 rfl rfl)
theorem dX3_ends_16 : decode cX3_ends 16 = .ok (.invokevirtual 63, 3) := dk_182 0 63 (dk_at dksX3_ends_0 16 rfl rfl)
theorem dX3_ends_19 : decode cX3_ends 19 = .ok (.aload_n 0, 1) := dk_42 (dk_at dksX3_ends_0 19 rfl rfl)
theorem dX3_ends_20 : decode cX3_ends 20 = .ok (.iload_n 2, 1) := dk_28 (dk_at dksX3_ends_0 20 rfl rfl)
theorem dX3_ends_21 : decode cX3_ends 21 = .ok (.invokevirtual 67, 3) := dk_182 0 67 (dk_at dksX3_ends_0 21 rfl rfl)
theorem dX3_ends_24 : decode cX3_ends 24 = .ok (.ireturn, 1) := dk_172 (dk_at dksX3_ends_1 0 rfl rfl)
abbrev cX3_keeps : ByteArray := prog_20_method_9_code
def yX3_keeps : MethodName := ⟨RX3, "keeps", "(II)V"⟩
def dkwX3_keeps_2 : List UInt8 := [154, 0, 10, 42, 180, 0, 31, 5, 3, 79, 177]
abbrev dktX3_keeps_2 : List UInt8 := dkwX3_keeps_2 ++ []
def dkwX3_keeps_1 : List UInt8 := [180, 0, 31, 27, 4, 96, 42, 180, 0, 50, 79, 42, 180, 0, 34, 27, 4, 96, 42, 180, 0, 53, 79, 27]
abbrev dktX3_keeps_1 : List UInt8 := dkwX3_keeps_1 ++ dktX3_keeps_2
def dkwX3_keeps_0 : List UInt8 := [42, 180, 0, 31, 27, 28, 79, 42, 180, 0, 34, 27, 42, 180, 0, 47, 79, 27, 5, 162, 0, 27, 42]
abbrev dktX3_keeps_0 : List UInt8 := dkwX3_keeps_0 ++ dktX3_keeps_1
theorem dksX3_keeps_0 : cX3_keeps.data.toList.drop 0 = dktX3_keeps_0 := by decide +kernel
theorem dksX3_keeps_1 : cX3_keeps.data.toList.drop 23 = dktX3_keeps_1 := dk_seg dksX3_keeps_0 23 rfl rfl
theorem dksX3_keeps_2 : cX3_keeps.data.toList.drop 47 = dktX3_keeps_2 := dk_seg dksX3_keeps_1 24 rfl rfl
theorem dX3_keeps_0 : decode cX3_keeps 0 = .ok (.aload_n 0, 1) := dk_42 (dk_at dksX3_keeps_0 0 rfl rfl)
theorem dX3_keeps_1 : decode cX3_keeps 1 = .ok (.getfield 31, 3) := dk_180 0 31 (dk_at dksX3_keeps_0 1 rfl rfl)
theorem dX3_keeps_4 : decode cX3_keeps 4 = .ok (.iload_n 1, 1) := dk_27 (dk_at dksX3_keeps_0 4 rfl rfl)
theorem dX3_keeps_5 : decode cX3_keeps 5 = .ok (.iload_n 2, 1) := dk_28 (dk_at dksX3_keeps_0 5 rfl rfl)
theorem dX3_keeps_6 : decode cX3_keeps 6 = .ok (.iastore, 1) := dk_79 (dk_at dksX3_keeps_0 6 rfl rfl)
theorem dX3_keeps_7 : decode cX3_keeps 7 = .ok (.aload_n 0, 1) := dk_42 (dk_at dksX3_keeps_0 7 rfl rfl)
theorem dX3_keeps_8 : decode cX3_keeps 8 = .ok (.getfield 34, 3) := dk_180 0 34 (dk_at dksX3_keeps_0 8 rfl rfl)
theorem dX3_keeps_11 : decode cX3_keeps 11 = .ok (.iload_n 1, 1) := dk_27 (dk_at dksX3_keeps_0 11 rfl rfl)
theorem dX3_keeps_12 : decode cX3_keeps 12 = .ok (.aload_n 0, 1) := dk_42 (dk_at dksX3_keeps_0 12 rfl rfl)
theorem dX3_keeps_13 : decode cX3_keeps 13 = .ok (.getfield 47, 3) := dk_180 0 47 (dk_at dksX3_keeps_0 13 rfl rfl)
theorem dX3_keeps_16 : decode cX3_keeps 16 = .ok (.iastore, 1) := dk_79 (dk_at dksX3_keeps_0 16 rfl rfl)
theorem dX3_keeps_17 : decode cX3_keeps 17 = .ok (.iload_n 1, 1) := dk_27 (dk_at dksX3_keeps_0 17 rfl rfl)
theorem dX3_keeps_18 : decode cX3_keeps 18 = .ok (.iconst 2, 1) := dk_5 (dk_at dksX3_keeps_0 18 rfl rfl)
theorem dX3_keeps_19 : decode cX3_keeps 19 = .ok (.if_icmp .ge 27, 3) := dk_162 0 27 (dk_at dksX3_keeps_0 19 rfl rfl)
theorem dX3_keeps_22 : decode cX3_keeps 22 = .ok (.aload_n 0, 1) := dk_42 (dk_at dksX3_keeps_0 22 rfl rfl)
theorem dX3_keeps_23 : decode cX3_keeps 23 = .ok (.getfield 31, 3) := dk_180 0 31 (dk_at dksX3_keeps_1 0 rfl rfl)
theorem dX3_keeps_26 : decode cX3_keeps 26 = .ok (.iload_n 1, 1) := dk_27 (dk_at dksX3_keeps_1 3 rfl rfl)
theorem dX3_keeps_27 : decode cX3_keeps 27 = .ok (.iconst 1, 1) := dk_4 (dk_at dksX3_keeps_1 4 rfl rfl)
theorem dX3_keeps_28 : decode cX3_keeps 28 = .ok (.iadd, 1) := dk_96 (dk_at dksX3_keeps_1 5 rfl rfl)
theorem dX3_keeps_29 : decode cX3_keeps 29 = .ok (.aload_n 0, 1) := dk_42 (dk_at dksX3_keeps_1 6 rfl rfl)
theorem dX3_keeps_30 : decode cX3_keeps 30 = .ok (.getfield 50, 3) := dk_180 0 50 (dk_at dksX3_keeps_1 7 rfl rfl)
theorem dX3_keeps_33 : decode cX3_keeps 33 = .ok (.iastore, 1) := dk_79 (dk_at dksX3_keeps_1 10 rfl rfl)
theorem dX3_keeps_34 : decode cX3_keeps 34 = .ok (.aload_n 0, 1) := dk_42 (dk_at dksX3_keeps_1 11 rfl rfl)
theorem dX3_keeps_35 : decode cX3_keeps 35 = .ok (.getfield 34, 3) := dk_180 0 34 (dk_at dksX3_keeps_1 12 rfl rfl)
theorem dX3_keeps_38 : decode cX3_keeps 38 = .ok (.iload_n 1, 1) := dk_27 (dk_at dksX3_keeps_1 15 rfl rfl)
theorem dX3_keeps_39 : decode cX3_keeps 39 = .ok (.iconst 1, 1) := dk_4 (dk_at dksX3_keeps_1 16 rfl rfl)
theorem dX3_keeps_40 : decode cX3_keeps 40 = .ok (.iadd, 1) := dk_96 (dk_at dksX3_keeps_1 17 rfl rfl)
theorem dX3_keeps_41 : decode cX3_keeps 41 = .ok (.aload_n 0, 1) := dk_42 (dk_at dksX3_keeps_1 18 rfl rfl)
theorem dX3_keeps_42 : decode cX3_keeps 42 = .ok (.getfield 53, 3) := dk_180 0 53 (dk_at dksX3_keeps_1 19 rfl rfl)
theorem dX3_keeps_45 : decode cX3_keeps 45 = .ok (.iastore, 1) := dk_79 (dk_at dksX3_keeps_1 22 rfl rfl)
theorem dX3_keeps_46 : decode cX3_keeps 46 = .ok (.iload_n 1, 1) := dk_27 (dk_at dksX3_keeps_1 23 rfl rfl)
theorem dX3_keeps_47 : decode cX3_keeps 47 = .ok (.ifCond .ne 10, 3) := dk_154 0 10 (dk_at dksX3_keeps_2 0 rfl rfl)
theorem dX3_keeps_50 : decode cX3_keeps 50 = .ok (.aload_n 0, 1) := dk_42 (dk_at dksX3_keeps_2 3 rfl rfl)
theorem dX3_keeps_51 : decode cX3_keeps 51 = .ok (.getfield 31, 3) := dk_180 0 31 (dk_at dksX3_keeps_2 4 rfl rfl)
theorem dX3_keeps_54 : decode cX3_keeps 54 = .ok (.iconst 2, 1) := dk_5 (dk_at dksX3_keeps_2 7 rfl rfl)
theorem dX3_keeps_55 : decode cX3_keeps 55 = .ok (.iconst 0, 1) := dk_3 (dk_at dksX3_keeps_2 8 rfl rfl)
theorem dX3_keeps_56 : decode cX3_keeps 56 = .ok (.iastore, 1) := dk_79 (dk_at dksX3_keeps_2 9 rfl rfl)
theorem dX3_keeps_57 : decode cX3_keeps 57 = .ok (.return_, 1) := dk_177 (dk_at dksX3_keeps_2 10 rfl rfl)
abbrev cX3_drift : ByteArray := prog_20_method_30_code
def yX3_drift : MethodName := ⟨RX3, "drift", "(II)I"⟩
def dkwX3_drift_2 : List UInt8 := [5, 182, 0, 67, 172]
abbrev dktX3_drift_2 : List UInt8 := dkwX3_drift_2 ++ []
def dkwX3_drift_1 : List UInt8 := [16, 253, 6, 184, 0, 70, 153, 0, 17, 42, 42, 27, 28, 182, 0, 119, 6, 182, 0, 113, 167, 0, 8, 42]
abbrev dktX3_drift_1 : List UInt8 := dkwX3_drift_1 ++ dktX3_drift_2
def dkwX3_drift_0 : List UInt8 := [42, 3, 181, 0, 41, 42, 182, 0, 107, 42, 27, 182, 0, 116, 154, 0, 9, 42, 4, 182, 0, 67, 172, 28]
abbrev dktX3_drift_0 : List UInt8 := dkwX3_drift_0 ++ dktX3_drift_1
theorem dksX3_drift_0 : cX3_drift.data.toList.drop 0 = dktX3_drift_0 := by decide +kernel
theorem dksX3_drift_1 : cX3_drift.data.toList.drop 24 = dktX3_drift_1 := dk_seg dksX3_drift_0 24 rfl rfl
theorem dksX3_drift_2 : cX3_drift.data.toList.drop 48 = dktX3_drift_2 := dk_seg dksX3_drift_1 24 rfl rfl
theorem dX3_drift_0 : decode cX3_drift 0 = .ok (.aload_n 0, 1) := dk_42 (dk_at dksX3_drift_0 0 rfl rfl)
theorem dX3_drift_1 : decode cX3_drift 1 = .ok (.iconst 0, 1) := dk_3 (dk_at dksX3_drift_0 1 rfl rfl)
theorem dX3_drift_2 : decode cX3_drift 2 = .ok (.putfield 41, 3) := dk_181 0 41 (dk_at dksX3_drift_0 2 rfl rfl)
theorem dX3_drift_5 : decode cX3_drift 5 = .ok (.aload_n 0, 1) := dk_42 (dk_at dksX3_drift_0 5 rfl rfl)
theorem dX3_drift_6 : decode cX3_drift 6 = .ok (.invokevirtual 107, 3) := dk_182 0 107 (dk_at dksX3_drift_0 6 rfl rfl)
theorem dX3_drift_9 : decode cX3_drift 9 = .ok (.aload_n 0, 1) := dk_42 (dk_at dksX3_drift_0 9 rfl rfl)
theorem dX3_drift_10 : decode cX3_drift 10 = .ok (.iload_n 1, 1) := dk_27 (dk_at dksX3_drift_0 10 rfl rfl)
theorem dX3_drift_11 : decode cX3_drift 11 = .ok (.invokevirtual 116, 3) := dk_182 0 116 (dk_at dksX3_drift_0 11 rfl rfl)
theorem dX3_drift_14 : decode cX3_drift 14 = .ok (.ifCond .ne 9, 3) := dk_154 0 9 (dk_at dksX3_drift_0 14 rfl rfl)
theorem dX3_drift_17 : decode cX3_drift 17 = .ok (.aload_n 0, 1) := dk_42 (dk_at dksX3_drift_0 17 rfl rfl)
theorem dX3_drift_18 : decode cX3_drift 18 = .ok (.iconst 1, 1) := dk_4 (dk_at dksX3_drift_0 18 rfl rfl)
theorem dX3_drift_19 : decode cX3_drift 19 = .ok (.invokevirtual 67, 3) := dk_182 0 67 (dk_at dksX3_drift_0 19 rfl rfl)
theorem dX3_drift_22 : decode cX3_drift 22 = .ok (.ireturn, 1) := dk_172 (dk_at dksX3_drift_0 22 rfl rfl)
theorem dX3_drift_23 : decode cX3_drift 23 = .ok (.iload_n 2, 1) := dk_28 (dk_at dksX3_drift_0 23 rfl rfl)
theorem dX3_drift_24 : decode cX3_drift 24 = .ok (.bipush (-3), 2) := dk_16 253 (dk_at dksX3_drift_1 0 rfl rfl)
theorem dX3_drift_26 : decode cX3_drift 26 = .ok (.iconst 3, 1) := dk_6 (dk_at dksX3_drift_1 2 rfl rfl)
theorem dX3_drift_27 : decode cX3_drift 27 = .ok (.invokestatic 70, 3) := dk_184 0 70 (dk_at dksX3_drift_1 3 rfl rfl)
theorem dX3_drift_30 : decode cX3_drift 30 = .ok (.ifCond .eq 17, 3) := dk_153 0 17 (dk_at dksX3_drift_1 6 rfl rfl)
theorem dX3_drift_33 : decode cX3_drift 33 = .ok (.aload_n 0, 1) := dk_42 (dk_at dksX3_drift_1 9 rfl rfl)
theorem dX3_drift_34 : decode cX3_drift 34 = .ok (.aload_n 0, 1) := dk_42 (dk_at dksX3_drift_1 10 rfl rfl)
theorem dX3_drift_35 : decode cX3_drift 35 = .ok (.iload_n 1, 1) := dk_27 (dk_at dksX3_drift_1 11 rfl rfl)
theorem dX3_drift_36 : decode cX3_drift 36 = .ok (.iload_n 2, 1) := dk_28 (dk_at dksX3_drift_1 12 rfl rfl)
theorem dX3_drift_37 : decode cX3_drift 37 = .ok (.invokevirtual 119, 3) := dk_182 0 119 (dk_at dksX3_drift_1 13 rfl rfl)
theorem dX3_drift_40 : decode cX3_drift 40 = .ok (.iconst 3, 1) := dk_6 (dk_at dksX3_drift_1 16 rfl rfl)
theorem dX3_drift_41 : decode cX3_drift 41 = .ok (.invokevirtual 113, 3) := dk_182 0 113 (dk_at dksX3_drift_1 17 rfl rfl)
theorem dX3_drift_44 : decode cX3_drift 44 = .ok (.goto 8, 3) := dk_167 0 8 (dk_at dksX3_drift_1 20 rfl rfl)
theorem dX3_drift_47 : decode cX3_drift 47 = .ok (.aload_n 0, 1) := dk_42 (dk_at dksX3_drift_1 23 rfl rfl)
theorem dX3_drift_48 : decode cX3_drift 48 = .ok (.iconst 2, 1) := dk_5 (dk_at dksX3_drift_2 0 rfl rfl)
theorem dX3_drift_49 : decode cX3_drift 49 = .ok (.invokevirtual 67, 3) := dk_182 0 67 (dk_at dksX3_drift_2 1 rfl rfl)
theorem dX3_drift_52 : decode cX3_drift 52 = .ok (.ireturn, 1) := dk_172 (dk_at dksX3_drift_2 4 rfl rfl)
abbrev cX3_isTrader : ByteArray := prog_20_method_11_code
def yX3_isTrader : MethodName := ⟨RX3, "isTrader", "(I)Z"⟩
def dkwX3_isTrader_0 : List UInt8 := [27, 3, 42, 180, 0, 7, 4, 46, 4, 100, 184, 0, 70, 172]
abbrev dktX3_isTrader_0 : List UInt8 := dkwX3_isTrader_0 ++ []
theorem dksX3_isTrader_0 : cX3_isTrader.data.toList.drop 0 = dktX3_isTrader_0 := by decide +kernel
theorem dX3_isTrader_0 : decode cX3_isTrader 0 = .ok (.iload_n 1, 1) := dk_27 (dk_at dksX3_isTrader_0 0 rfl rfl)
theorem dX3_isTrader_1 : decode cX3_isTrader 1 = .ok (.iconst 0, 1) := dk_3 (dk_at dksX3_isTrader_0 1 rfl rfl)
theorem dX3_isTrader_2 : decode cX3_isTrader 2 = .ok (.aload_n 0, 1) := dk_42 (dk_at dksX3_isTrader_0 2 rfl rfl)
theorem dX3_isTrader_3 : decode cX3_isTrader 3 = .ok (.getfield 7, 3) := dk_180 0 7 (dk_at dksX3_isTrader_0 3 rfl rfl)
theorem dX3_isTrader_6 : decode cX3_isTrader 6 = .ok (.iconst 1, 1) := dk_4 (dk_at dksX3_isTrader_0 6 rfl rfl)
theorem dX3_isTrader_7 : decode cX3_isTrader 7 = .ok (.iaload, 1) := dk_46 (dk_at dksX3_isTrader_0 7 rfl rfl)
theorem dX3_isTrader_8 : decode cX3_isTrader 8 = .ok (.iconst 1, 1) := dk_4 (dk_at dksX3_isTrader_0 8 rfl rfl)
theorem dX3_isTrader_9 : decode cX3_isTrader 9 = .ok (.isub, 1) := dk_100 (dk_at dksX3_isTrader_0 9 rfl rfl)
theorem dX3_isTrader_10 : decode cX3_isTrader 10 = .ok (.invokestatic 70, 3) := dk_184 0 70 (dk_at dksX3_isTrader_0 10 rfl rfl)
theorem dX3_isTrader_13 : decode cX3_isTrader 13 = .ok (.ireturn, 1) := dk_172 (dk_at dksX3_isTrader_0 13 rfl rfl)
abbrev cX3_drifts : ByteArray := prog_20_method_25_code
def yX3_drifts : MethodName := ⟨RX3, "drifts", "(II)I"⟩
def dkwX3_drifts_1 : List UInt8 := [182, 0, 101, 172]
abbrev dktX3_drifts_1 : List UInt8 := dkwX3_drifts_1 ++ []
def dkwX3_drifts_0 : List UInt8 := [42, 180, 0, 7, 16, 55, 27, 96, 46, 62, 42, 180, 0, 7, 16, 55, 27, 96, 28, 79, 42, 29]
abbrev dktX3_drifts_0 : List UInt8 := dkwX3_drifts_0 ++ dktX3_drifts_1
theorem dksX3_drifts_0 : cX3_drifts.data.toList.drop 0 = dktX3_drifts_0 := by decide +kernel
theorem dksX3_drifts_1 : cX3_drifts.data.toList.drop 22 = dktX3_drifts_1 := dk_seg dksX3_drifts_0 22 rfl rfl
theorem dX3_drifts_0 : decode cX3_drifts 0 = .ok (.aload_n 0, 1) := dk_42 (dk_at dksX3_drifts_0 0 rfl rfl)
theorem dX3_drifts_1 : decode cX3_drifts 1 = .ok (.getfield 7, 3) := dk_180 0 7 (dk_at dksX3_drifts_0 1 rfl rfl)
theorem dX3_drifts_4 : decode cX3_drifts 4 = .ok (.bipush 55, 2) := dk_16 55 (dk_at dksX3_drifts_0 4 rfl rfl)
theorem dX3_drifts_6 : decode cX3_drifts 6 = .ok (.iload_n 1, 1) := dk_27 (dk_at dksX3_drifts_0 6 rfl rfl)
theorem dX3_drifts_7 : decode cX3_drifts 7 = .ok (.iadd, 1) := dk_96 (dk_at dksX3_drifts_0 7 rfl rfl)
theorem dX3_drifts_8 : decode cX3_drifts 8 = .ok (.iaload, 1) := dk_46 (dk_at dksX3_drifts_0 8 rfl rfl)
theorem dX3_drifts_9 : decode cX3_drifts 9 = .ok (.istore_n 3, 1) := dk_62 (dk_at dksX3_drifts_0 9 rfl rfl)
theorem dX3_drifts_10 : decode cX3_drifts 10 = .ok (.aload_n 0, 1) := dk_42 (dk_at dksX3_drifts_0 10 rfl rfl)
theorem dX3_drifts_11 : decode cX3_drifts 11 = .ok (.getfield 7, 3) := dk_180 0 7 (dk_at dksX3_drifts_0 11 rfl rfl)
theorem dX3_drifts_14 : decode cX3_drifts 14 = .ok (.bipush 55, 2) := dk_16 55 (dk_at dksX3_drifts_0 14 rfl rfl)
theorem dX3_drifts_16 : decode cX3_drifts 16 = .ok (.iload_n 1, 1) := dk_27 (dk_at dksX3_drifts_0 16 rfl rfl)
theorem dX3_drifts_17 : decode cX3_drifts 17 = .ok (.iadd, 1) := dk_96 (dk_at dksX3_drifts_0 17 rfl rfl)
theorem dX3_drifts_18 : decode cX3_drifts 18 = .ok (.iload_n 2, 1) := dk_28 (dk_at dksX3_drifts_0 18 rfl rfl)
theorem dX3_drifts_19 : decode cX3_drifts 19 = .ok (.iastore, 1) := dk_79 (dk_at dksX3_drifts_0 19 rfl rfl)
theorem dX3_drifts_20 : decode cX3_drifts 20 = .ok (.aload_n 0, 1) := dk_42 (dk_at dksX3_drifts_0 20 rfl rfl)
theorem dX3_drifts_21 : decode cX3_drifts 21 = .ok (.iload_n 3, 1) := dk_29 (dk_at dksX3_drifts_0 21 rfl rfl)
theorem dX3_drifts_22 : decode cX3_drifts 22 = .ok (.invokevirtual 101, 3) := dk_182 0 101 (dk_at dksX3_drifts_1 0 rfl rfl)
theorem dX3_drifts_25 : decode cX3_drifts 25 = .ok (.ireturn, 1) := dk_172 (dk_at dksX3_drifts_1 3 rfl rfl)
abbrev cX3_done : ByteArray := prog_20_method_8_code
def yX3_done : MethodName := ⟨RX3, "done", "(I)I"⟩
def dkwX3_done_0 : List UInt8 := [42, 27, 181, 0, 56, 3, 172]
abbrev dktX3_done_0 : List UInt8 := dkwX3_done_0 ++ []
theorem dksX3_done_0 : cX3_done.data.toList.drop 0 = dktX3_done_0 := by decide +kernel
theorem dX3_done_0 : decode cX3_done 0 = .ok (.aload_n 0, 1) := dk_42 (dk_at dksX3_done_0 0 rfl rfl)
theorem dX3_done_1 : decode cX3_done 1 = .ok (.iload_n 1, 1) := dk_27 (dk_at dksX3_done_0 1 rfl rfl)
theorem dX3_done_2 : decode cX3_done 2 = .ok (.putfield 56, 3) := dk_181 0 56 (dk_at dksX3_done_0 2 rfl rfl)
theorem dX3_done_5 : decode cX3_done 5 = .ok (.iconst 0, 1) := dk_3 (dk_at dksX3_done_0 5 rfl rfl)
theorem dX3_done_6 : decode cX3_done 6 = .ok (.ireturn, 1) := dk_172 (dk_at dksX3_done_0 6 rfl rfl)
abbrev cX3_coins : ByteArray := prog_20_method_31_code
def yX3_coins : MethodName := ⟨RX3, "coins", "(II)I"⟩
def dkwX3_coins_4 : List UInt8 := [172]
abbrev dktX3_coins_4 : List UInt8 := dkwX3_coins_4 ++ []
def dkwX3_coins_3 : List UInt8 := [180, 0, 7, 16, 25, 27, 96, 46, 28, 96, 79, 42, 42, 180, 0, 7, 16, 25, 27, 96, 46, 182, 0, 59]
abbrev dktX3_coins_3 : List UInt8 := dkwX3_coins_3 ++ dktX3_coins_4
def dkwX3_coins_2 : List UInt8 := [180, 0, 7, 16, 25, 27, 96, 46, 28, 96, 17, 3, 231, 164, 0, 9, 17, 3, 231, 167, 0, 14, 42]
abbrev dktX3_coins_2 : List UInt8 := dkwX3_coins_2 ++ dktX3_coins_3
def dkwX3_coins_1 : List UInt8 := [4, 16, 99, 184, 0, 70, 154, 0, 9, 42, 5, 182, 0, 67, 172, 42, 180, 0, 7, 16, 25, 27, 96, 42]
abbrev dktX3_coins_1 : List UInt8 := dkwX3_coins_1 ++ dktX3_coins_2
def dkwX3_coins_0 : List UInt8 := [42, 3, 181, 0, 41, 42, 182, 0, 107, 42, 27, 182, 0, 116, 154, 0, 9, 42, 4, 182, 0, 67, 172, 28]
abbrev dktX3_coins_0 : List UInt8 := dkwX3_coins_0 ++ dktX3_coins_1
theorem dksX3_coins_0 : cX3_coins.data.toList.drop 0 = dktX3_coins_0 := by decide +kernel
theorem dksX3_coins_1 : cX3_coins.data.toList.drop 24 = dktX3_coins_1 := dk_seg dksX3_coins_0 24 rfl rfl
theorem dksX3_coins_2 : cX3_coins.data.toList.drop 48 = dktX3_coins_2 := dk_seg dksX3_coins_1 24 rfl rfl
theorem dksX3_coins_3 : cX3_coins.data.toList.drop 71 = dktX3_coins_3 := dk_seg dksX3_coins_2 23 rfl rfl
theorem dksX3_coins_4 : cX3_coins.data.toList.drop 95 = dktX3_coins_4 := dk_seg dksX3_coins_3 24 rfl rfl
theorem dX3_coins_0 : decode cX3_coins 0 = .ok (.aload_n 0, 1) := dk_42 (dk_at dksX3_coins_0 0 rfl rfl)
theorem dX3_coins_1 : decode cX3_coins 1 = .ok (.iconst 0, 1) := dk_3 (dk_at dksX3_coins_0 1 rfl rfl)
theorem dX3_coins_2 : decode cX3_coins 2 = .ok (.putfield 41, 3) := dk_181 0 41 (dk_at dksX3_coins_0 2 rfl rfl)
theorem dX3_coins_5 : decode cX3_coins 5 = .ok (.aload_n 0, 1) := dk_42 (dk_at dksX3_coins_0 5 rfl rfl)
theorem dX3_coins_6 : decode cX3_coins 6 = .ok (.invokevirtual 107, 3) := dk_182 0 107 (dk_at dksX3_coins_0 6 rfl rfl)
theorem dX3_coins_9 : decode cX3_coins 9 = .ok (.aload_n 0, 1) := dk_42 (dk_at dksX3_coins_0 9 rfl rfl)
theorem dX3_coins_10 : decode cX3_coins 10 = .ok (.iload_n 1, 1) := dk_27 (dk_at dksX3_coins_0 10 rfl rfl)
theorem dX3_coins_11 : decode cX3_coins 11 = .ok (.invokevirtual 116, 3) := dk_182 0 116 (dk_at dksX3_coins_0 11 rfl rfl)
theorem dX3_coins_14 : decode cX3_coins 14 = .ok (.ifCond .ne 9, 3) := dk_154 0 9 (dk_at dksX3_coins_0 14 rfl rfl)
theorem dX3_coins_17 : decode cX3_coins 17 = .ok (.aload_n 0, 1) := dk_42 (dk_at dksX3_coins_0 17 rfl rfl)
theorem dX3_coins_18 : decode cX3_coins 18 = .ok (.iconst 1, 1) := dk_4 (dk_at dksX3_coins_0 18 rfl rfl)
theorem dX3_coins_19 : decode cX3_coins 19 = .ok (.invokevirtual 67, 3) := dk_182 0 67 (dk_at dksX3_coins_0 19 rfl rfl)
theorem dX3_coins_22 : decode cX3_coins 22 = .ok (.ireturn, 1) := dk_172 (dk_at dksX3_coins_0 22 rfl rfl)
theorem dX3_coins_23 : decode cX3_coins 23 = .ok (.iload_n 2, 1) := dk_28 (dk_at dksX3_coins_0 23 rfl rfl)
theorem dX3_coins_24 : decode cX3_coins 24 = .ok (.iconst 1, 1) := dk_4 (dk_at dksX3_coins_1 0 rfl rfl)
theorem dX3_coins_25 : decode cX3_coins 25 = .ok (.bipush 99, 2) := dk_16 99 (dk_at dksX3_coins_1 1 rfl rfl)
theorem dX3_coins_27 : decode cX3_coins 27 = .ok (.invokestatic 70, 3) := dk_184 0 70 (dk_at dksX3_coins_1 3 rfl rfl)
theorem dX3_coins_30 : decode cX3_coins 30 = .ok (.ifCond .ne 9, 3) := dk_154 0 9 (dk_at dksX3_coins_1 6 rfl rfl)
theorem dX3_coins_33 : decode cX3_coins 33 = .ok (.aload_n 0, 1) := dk_42 (dk_at dksX3_coins_1 9 rfl rfl)
theorem dX3_coins_34 : decode cX3_coins 34 = .ok (.iconst 2, 1) := dk_5 (dk_at dksX3_coins_1 10 rfl rfl)
theorem dX3_coins_35 : decode cX3_coins 35 = .ok (.invokevirtual 67, 3) := dk_182 0 67 (dk_at dksX3_coins_1 11 rfl rfl)
theorem dX3_coins_38 : decode cX3_coins 38 = .ok (.ireturn, 1) := dk_172 (dk_at dksX3_coins_1 14 rfl rfl)
theorem dX3_coins_39 : decode cX3_coins 39 = .ok (.aload_n 0, 1) := dk_42 (dk_at dksX3_coins_1 15 rfl rfl)
theorem dX3_coins_40 : decode cX3_coins 40 = .ok (.getfield 7, 3) := dk_180 0 7 (dk_at dksX3_coins_1 16 rfl rfl)
theorem dX3_coins_43 : decode cX3_coins 43 = .ok (.bipush 25, 2) := dk_16 25 (dk_at dksX3_coins_1 19 rfl rfl)
theorem dX3_coins_45 : decode cX3_coins 45 = .ok (.iload_n 1, 1) := dk_27 (dk_at dksX3_coins_1 21 rfl rfl)
theorem dX3_coins_46 : decode cX3_coins 46 = .ok (.iadd, 1) := dk_96 (dk_at dksX3_coins_1 22 rfl rfl)
theorem dX3_coins_47 : decode cX3_coins 47 = .ok (.aload_n 0, 1) := dk_42 (dk_at dksX3_coins_1 23 rfl rfl)
theorem dX3_coins_48 : decode cX3_coins 48 = .ok (.getfield 7, 3) := dk_180 0 7 (dk_at dksX3_coins_2 0 rfl rfl)
theorem dX3_coins_51 : decode cX3_coins 51 = .ok (.bipush 25, 2) := dk_16 25 (dk_at dksX3_coins_2 3 rfl rfl)
theorem dX3_coins_53 : decode cX3_coins 53 = .ok (.iload_n 1, 1) := dk_27 (dk_at dksX3_coins_2 5 rfl rfl)
theorem dX3_coins_54 : decode cX3_coins 54 = .ok (.iadd, 1) := dk_96 (dk_at dksX3_coins_2 6 rfl rfl)
theorem dX3_coins_55 : decode cX3_coins 55 = .ok (.iaload, 1) := dk_46 (dk_at dksX3_coins_2 7 rfl rfl)
theorem dX3_coins_56 : decode cX3_coins 56 = .ok (.iload_n 2, 1) := dk_28 (dk_at dksX3_coins_2 8 rfl rfl)
theorem dX3_coins_57 : decode cX3_coins 57 = .ok (.iadd, 1) := dk_96 (dk_at dksX3_coins_2 9 rfl rfl)
theorem dX3_coins_58 : decode cX3_coins 58 = .ok (.sipush 999, 3) := dk_17 3 231 (dk_at dksX3_coins_2 10 rfl rfl)
theorem dX3_coins_61 : decode cX3_coins 61 = .ok (.if_icmp .le 9, 3) := dk_164 0 9 (dk_at dksX3_coins_2 13 rfl rfl)
theorem dX3_coins_64 : decode cX3_coins 64 = .ok (.sipush 999, 3) := dk_17 3 231 (dk_at dksX3_coins_2 16 rfl rfl)
theorem dX3_coins_67 : decode cX3_coins 67 = .ok (.goto 14, 3) := dk_167 0 14 (dk_at dksX3_coins_2 19 rfl rfl)
theorem dX3_coins_70 : decode cX3_coins 70 = .ok (.aload_n 0, 1) := dk_42 (dk_at dksX3_coins_2 22 rfl rfl)
theorem dX3_coins_71 : decode cX3_coins 71 = .ok (.getfield 7, 3) := dk_180 0 7 (dk_at dksX3_coins_3 0 rfl rfl)
theorem dX3_coins_74 : decode cX3_coins 74 = .ok (.bipush 25, 2) := dk_16 25 (dk_at dksX3_coins_3 3 rfl rfl)
theorem dX3_coins_76 : decode cX3_coins 76 = .ok (.iload_n 1, 1) := dk_27 (dk_at dksX3_coins_3 5 rfl rfl)
theorem dX3_coins_77 : decode cX3_coins 77 = .ok (.iadd, 1) := dk_96 (dk_at dksX3_coins_3 6 rfl rfl)
theorem dX3_coins_78 : decode cX3_coins 78 = .ok (.iaload, 1) := dk_46 (dk_at dksX3_coins_3 7 rfl rfl)
theorem dX3_coins_79 : decode cX3_coins 79 = .ok (.iload_n 2, 1) := dk_28 (dk_at dksX3_coins_3 8 rfl rfl)
theorem dX3_coins_80 : decode cX3_coins 80 = .ok (.iadd, 1) := dk_96 (dk_at dksX3_coins_3 9 rfl rfl)
theorem dX3_coins_81 : decode cX3_coins 81 = .ok (.iastore, 1) := dk_79 (dk_at dksX3_coins_3 10 rfl rfl)
theorem dX3_coins_82 : decode cX3_coins 82 = .ok (.aload_n 0, 1) := dk_42 (dk_at dksX3_coins_3 11 rfl rfl)
theorem dX3_coins_83 : decode cX3_coins 83 = .ok (.aload_n 0, 1) := dk_42 (dk_at dksX3_coins_3 12 rfl rfl)
theorem dX3_coins_84 : decode cX3_coins 84 = .ok (.getfield 7, 3) := dk_180 0 7 (dk_at dksX3_coins_3 13 rfl rfl)
theorem dX3_coins_87 : decode cX3_coins 87 = .ok (.bipush 25, 2) := dk_16 25 (dk_at dksX3_coins_3 16 rfl rfl)
theorem dX3_coins_89 : decode cX3_coins 89 = .ok (.iload_n 1, 1) := dk_27 (dk_at dksX3_coins_3 18 rfl rfl)
theorem dX3_coins_90 : decode cX3_coins 90 = .ok (.iadd, 1) := dk_96 (dk_at dksX3_coins_3 19 rfl rfl)
theorem dX3_coins_91 : decode cX3_coins 91 = .ok (.iaload, 1) := dk_46 (dk_at dksX3_coins_3 20 rfl rfl)
theorem dX3_coins_92 : decode cX3_coins 92 = .ok (.invokevirtual 59, 3) := dk_182 0 59 (dk_at dksX3_coins_3 21 rfl rfl)
theorem dX3_coins_95 : decode cX3_coins 95 = .ok (.ireturn, 1) := dk_172 (dk_at dksX3_coins_4 0 rfl rfl)
abbrev cX3_traderOf : ByteArray := prog_20_method_32_code
def yX3_traderOf : MethodName := ⟨RX3, "traderOf", "(II)I"⟩
def dkwX3_traderOf_3 : List UInt8 := [4, 100, 167, 0, 4, 28, 104, 96, 27, 96, 46, 172]
abbrev dktX3_traderOf_3 : List UInt8 := dkwX3_traderOf_3 ++ []
def dkwX3_traderOf_2 : List UInt8 := [153, 0, 7, 4, 167, 0, 4, 3, 172, 42, 180, 0, 7, 16, 15, 16, 10, 28, 16, 7, 164, 0, 9, 28]
abbrev dktX3_traderOf_2 : List UInt8 := dkwX3_traderOf_2 ++ dktX3_traderOf_3
def dkwX3_traderOf_1 : List UInt8 := [184, 0, 70, 154, 0, 9, 42, 5, 182, 0, 67, 172, 28, 16, 7, 160, 0, 17, 42, 27, 182, 0, 78]
abbrev dktX3_traderOf_1 : List UInt8 := dkwX3_traderOf_1 ++ dktX3_traderOf_2
def dkwX3_traderOf_0 : List UInt8 := [42, 3, 181, 0, 41, 42, 27, 182, 0, 116, 154, 0, 9, 42, 4, 182, 0, 67, 172, 28, 3, 16, 9]
abbrev dktX3_traderOf_0 : List UInt8 := dkwX3_traderOf_0 ++ dktX3_traderOf_1
theorem dksX3_traderOf_0 : cX3_traderOf.data.toList.drop 0 = dktX3_traderOf_0 := by decide +kernel
theorem dksX3_traderOf_1 : cX3_traderOf.data.toList.drop 23 = dktX3_traderOf_1 := dk_seg dksX3_traderOf_0 23 rfl rfl
theorem dksX3_traderOf_2 : cX3_traderOf.data.toList.drop 46 = dktX3_traderOf_2 := dk_seg dksX3_traderOf_1 23 rfl rfl
theorem dksX3_traderOf_3 : cX3_traderOf.data.toList.drop 70 = dktX3_traderOf_3 := dk_seg dksX3_traderOf_2 24 rfl rfl
theorem dX3_traderOf_0 : decode cX3_traderOf 0 = .ok (.aload_n 0, 1) := dk_42 (dk_at dksX3_traderOf_0 0 rfl rfl)
theorem dX3_traderOf_1 : decode cX3_traderOf 1 = .ok (.iconst 0, 1) := dk_3 (dk_at dksX3_traderOf_0 1 rfl rfl)
theorem dX3_traderOf_2 : decode cX3_traderOf 2 = .ok (.putfield 41, 3) := dk_181 0 41 (dk_at dksX3_traderOf_0 2 rfl rfl)
theorem dX3_traderOf_5 : decode cX3_traderOf 5 = .ok (.aload_n 0, 1) := dk_42 (dk_at dksX3_traderOf_0 5 rfl rfl)
theorem dX3_traderOf_6 : decode cX3_traderOf 6 = .ok (.iload_n 1, 1) := dk_27 (dk_at dksX3_traderOf_0 6 rfl rfl)
theorem dX3_traderOf_7 : decode cX3_traderOf 7 = .ok (.invokevirtual 116, 3) := dk_182 0 116 (dk_at dksX3_traderOf_0 7 rfl rfl)
theorem dX3_traderOf_10 : decode cX3_traderOf 10 = .ok (.ifCond .ne 9, 3) := dk_154 0 9 (dk_at dksX3_traderOf_0 10 rfl rfl)
theorem dX3_traderOf_13 : decode cX3_traderOf 13 = .ok (.aload_n 0, 1) := dk_42 (dk_at dksX3_traderOf_0 13 rfl rfl)
theorem dX3_traderOf_14 : decode cX3_traderOf 14 = .ok (.iconst 1, 1) := dk_4 (dk_at dksX3_traderOf_0 14 rfl rfl)
theorem dX3_traderOf_15 : decode cX3_traderOf 15 = .ok (.invokevirtual 67, 3) := dk_182 0 67 (dk_at dksX3_traderOf_0 15 rfl rfl)
theorem dX3_traderOf_18 : decode cX3_traderOf 18 = .ok (.ireturn, 1) := dk_172 (dk_at dksX3_traderOf_0 18 rfl rfl)
theorem dX3_traderOf_19 : decode cX3_traderOf 19 = .ok (.iload_n 2, 1) := dk_28 (dk_at dksX3_traderOf_0 19 rfl rfl)
theorem dX3_traderOf_20 : decode cX3_traderOf 20 = .ok (.iconst 0, 1) := dk_3 (dk_at dksX3_traderOf_0 20 rfl rfl)
theorem dX3_traderOf_21 : decode cX3_traderOf 21 = .ok (.bipush 9, 2) := dk_16 9 (dk_at dksX3_traderOf_0 21 rfl rfl)
theorem dX3_traderOf_23 : decode cX3_traderOf 23 = .ok (.invokestatic 70, 3) := dk_184 0 70 (dk_at dksX3_traderOf_1 0 rfl rfl)
theorem dX3_traderOf_26 : decode cX3_traderOf 26 = .ok (.ifCond .ne 9, 3) := dk_154 0 9 (dk_at dksX3_traderOf_1 3 rfl rfl)
theorem dX3_traderOf_29 : decode cX3_traderOf 29 = .ok (.aload_n 0, 1) := dk_42 (dk_at dksX3_traderOf_1 6 rfl rfl)
theorem dX3_traderOf_30 : decode cX3_traderOf 30 = .ok (.iconst 2, 1) := dk_5 (dk_at dksX3_traderOf_1 7 rfl rfl)
theorem dX3_traderOf_31 : decode cX3_traderOf 31 = .ok (.invokevirtual 67, 3) := dk_182 0 67 (dk_at dksX3_traderOf_1 8 rfl rfl)
theorem dX3_traderOf_34 : decode cX3_traderOf 34 = .ok (.ireturn, 1) := dk_172 (dk_at dksX3_traderOf_1 11 rfl rfl)
theorem dX3_traderOf_35 : decode cX3_traderOf 35 = .ok (.iload_n 2, 1) := dk_28 (dk_at dksX3_traderOf_1 12 rfl rfl)
theorem dX3_traderOf_36 : decode cX3_traderOf 36 = .ok (.bipush 7, 2) := dk_16 7 (dk_at dksX3_traderOf_1 13 rfl rfl)
theorem dX3_traderOf_38 : decode cX3_traderOf 38 = .ok (.if_icmp .ne 17, 3) := dk_160 0 17 (dk_at dksX3_traderOf_1 15 rfl rfl)
theorem dX3_traderOf_41 : decode cX3_traderOf 41 = .ok (.aload_n 0, 1) := dk_42 (dk_at dksX3_traderOf_1 18 rfl rfl)
theorem dX3_traderOf_42 : decode cX3_traderOf 42 = .ok (.iload_n 1, 1) := dk_27 (dk_at dksX3_traderOf_1 19 rfl rfl)
theorem dX3_traderOf_43 : decode cX3_traderOf 43 = .ok (.invokevirtual 78, 3) := dk_182 0 78 (dk_at dksX3_traderOf_1 20 rfl rfl)
theorem dX3_traderOf_46 : decode cX3_traderOf 46 = .ok (.ifCond .eq 7, 3) := dk_153 0 7 (dk_at dksX3_traderOf_2 0 rfl rfl)
theorem dX3_traderOf_49 : decode cX3_traderOf 49 = .ok (.iconst 1, 1) := dk_4 (dk_at dksX3_traderOf_2 3 rfl rfl)
theorem dX3_traderOf_50 : decode cX3_traderOf 50 = .ok (.goto 4, 3) := dk_167 0 4 (dk_at dksX3_traderOf_2 4 rfl rfl)
theorem dX3_traderOf_53 : decode cX3_traderOf 53 = .ok (.iconst 0, 1) := dk_3 (dk_at dksX3_traderOf_2 7 rfl rfl)
theorem dX3_traderOf_54 : decode cX3_traderOf 54 = .ok (.ireturn, 1) := dk_172 (dk_at dksX3_traderOf_2 8 rfl rfl)
theorem dX3_traderOf_55 : decode cX3_traderOf 55 = .ok (.aload_n 0, 1) := dk_42 (dk_at dksX3_traderOf_2 9 rfl rfl)
theorem dX3_traderOf_56 : decode cX3_traderOf 56 = .ok (.getfield 7, 3) := dk_180 0 7 (dk_at dksX3_traderOf_2 10 rfl rfl)
theorem dX3_traderOf_59 : decode cX3_traderOf 59 = .ok (.bipush 15, 2) := dk_16 15 (dk_at dksX3_traderOf_2 13 rfl rfl)
theorem dX3_traderOf_61 : decode cX3_traderOf 61 = .ok (.bipush 10, 2) := dk_16 10 (dk_at dksX3_traderOf_2 15 rfl rfl)
theorem dX3_traderOf_63 : decode cX3_traderOf 63 = .ok (.iload_n 2, 1) := dk_28 (dk_at dksX3_traderOf_2 17 rfl rfl)
theorem dX3_traderOf_64 : decode cX3_traderOf 64 = .ok (.bipush 7, 2) := dk_16 7 (dk_at dksX3_traderOf_2 18 rfl rfl)
theorem dX3_traderOf_66 : decode cX3_traderOf 66 = .ok (.if_icmp .le 9, 3) := dk_164 0 9 (dk_at dksX3_traderOf_2 20 rfl rfl)
theorem dX3_traderOf_69 : decode cX3_traderOf 69 = .ok (.iload_n 2, 1) := dk_28 (dk_at dksX3_traderOf_2 23 rfl rfl)
theorem dX3_traderOf_70 : decode cX3_traderOf 70 = .ok (.iconst 1, 1) := dk_4 (dk_at dksX3_traderOf_3 0 rfl rfl)
theorem dX3_traderOf_71 : decode cX3_traderOf 71 = .ok (.isub, 1) := dk_100 (dk_at dksX3_traderOf_3 1 rfl rfl)
theorem dX3_traderOf_72 : decode cX3_traderOf 72 = .ok (.goto 4, 3) := dk_167 0 4 (dk_at dksX3_traderOf_3 2 rfl rfl)
theorem dX3_traderOf_75 : decode cX3_traderOf 75 = .ok (.iload_n 2, 1) := dk_28 (dk_at dksX3_traderOf_3 5 rfl rfl)
theorem dX3_traderOf_76 : decode cX3_traderOf 76 = .ok (.imul, 1) := dk_104 (dk_at dksX3_traderOf_3 6 rfl rfl)
theorem dX3_traderOf_77 : decode cX3_traderOf 77 = .ok (.iadd, 1) := dk_96 (dk_at dksX3_traderOf_3 7 rfl rfl)
theorem dX3_traderOf_78 : decode cX3_traderOf 78 = .ok (.iload_n 1, 1) := dk_27 (dk_at dksX3_traderOf_3 8 rfl rfl)
theorem dX3_traderOf_79 : decode cX3_traderOf 79 = .ok (.iadd, 1) := dk_96 (dk_at dksX3_traderOf_3 9 rfl rfl)
theorem dX3_traderOf_80 : decode cX3_traderOf 80 = .ok (.iaload, 1) := dk_46 (dk_at dksX3_traderOf_3 10 rfl rfl)
theorem dX3_traderOf_81 : decode cX3_traderOf 81 = .ok (.ireturn, 1) := dk_172 (dk_at dksX3_traderOf_3 11 rfl rfl)
abbrev cX3_isBarred : ByteArray := prog_20_method_17_code
def yX3_isBarred : MethodName := ⟨RX3, "isBarred", "(I)Z"⟩
def dkwX3_isBarred_0 : List UInt8 := [42, 180, 0, 7, 16, 35, 27, 96, 46, 16, 30, 164, 0, 7, 4, 167, 0, 4, 3, 172]
abbrev dktX3_isBarred_0 : List UInt8 := dkwX3_isBarred_0 ++ []
theorem dksX3_isBarred_0 : cX3_isBarred.data.toList.drop 0 = dktX3_isBarred_0 := by decide +kernel
theorem dX3_isBarred_0 : decode cX3_isBarred 0 = .ok (.aload_n 0, 1) := dk_42 (dk_at dksX3_isBarred_0 0 rfl rfl)
theorem dX3_isBarred_1 : decode cX3_isBarred 1 = .ok (.getfield 7, 3) := dk_180 0 7 (dk_at dksX3_isBarred_0 1 rfl rfl)
theorem dX3_isBarred_4 : decode cX3_isBarred 4 = .ok (.bipush 35, 2) := dk_16 35 (dk_at dksX3_isBarred_0 4 rfl rfl)
theorem dX3_isBarred_6 : decode cX3_isBarred 6 = .ok (.iload_n 1, 1) := dk_27 (dk_at dksX3_isBarred_0 6 rfl rfl)
theorem dX3_isBarred_7 : decode cX3_isBarred 7 = .ok (.iadd, 1) := dk_96 (dk_at dksX3_isBarred_0 7 rfl rfl)
theorem dX3_isBarred_8 : decode cX3_isBarred 8 = .ok (.iaload, 1) := dk_46 (dk_at dksX3_isBarred_0 8 rfl rfl)
theorem dX3_isBarred_9 : decode cX3_isBarred 9 = .ok (.bipush 30, 2) := dk_16 30 (dk_at dksX3_isBarred_0 9 rfl rfl)
theorem dX3_isBarred_11 : decode cX3_isBarred 11 = .ok (.if_icmp .le 7, 3) := dk_164 0 7 (dk_at dksX3_isBarred_0 11 rfl rfl)
theorem dX3_isBarred_14 : decode cX3_isBarred 14 = .ok (.iconst 1, 1) := dk_4 (dk_at dksX3_isBarred_0 14 rfl rfl)
theorem dX3_isBarred_15 : decode cX3_isBarred 15 = .ok (.goto 4, 3) := dk_167 0 4 (dk_at dksX3_isBarred_0 15 rfl rfl)
theorem dX3_isBarred_18 : decode cX3_isBarred 18 = .ok (.iconst 0, 1) := dk_3 (dk_at dksX3_isBarred_0 18 rfl rfl)
theorem dX3_isBarred_19 : decode cX3_isBarred 19 = .ok (.ireturn, 1) := dk_172 (dk_at dksX3_isBarred_0 19 rfl rfl)
abbrev cX3_traderAt : ByteArray := prog_20_method_34_code
def yX3_traderAt : MethodName := ⟨RX3, "traderAt", "(II)I"⟩
def dkwX3_traderAt_1 : List UInt8 := [2, 160, 0, 11, 42, 5, 182, 0, 67, 167, 0, 9, 42, 27, 28, 182, 0, 122, 172]
abbrev dktX3_traderAt_1 : List UInt8 := dkwX3_traderAt_1 ++ []
def dkwX3_traderAt_0 : List UInt8 := [42, 3, 181, 0, 41, 27, 184, 0, 110, 154, 0, 9, 42, 4, 182, 0, 67, 172, 42, 27, 28, 182, 0, 122]
abbrev dktX3_traderAt_0 : List UInt8 := dkwX3_traderAt_0 ++ dktX3_traderAt_1
theorem dksX3_traderAt_0 : cX3_traderAt.data.toList.drop 0 = dktX3_traderAt_0 := by decide +kernel
theorem dksX3_traderAt_1 : cX3_traderAt.data.toList.drop 24 = dktX3_traderAt_1 := dk_seg dksX3_traderAt_0 24 rfl rfl
theorem dX3_traderAt_0 : decode cX3_traderAt 0 = .ok (.aload_n 0, 1) := dk_42 (dk_at dksX3_traderAt_0 0 rfl rfl)
theorem dX3_traderAt_1 : decode cX3_traderAt 1 = .ok (.iconst 0, 1) := dk_3 (dk_at dksX3_traderAt_0 1 rfl rfl)
theorem dX3_traderAt_2 : decode cX3_traderAt 2 = .ok (.putfield 41, 3) := dk_181 0 41 (dk_at dksX3_traderAt_0 2 rfl rfl)
theorem dX3_traderAt_5 : decode cX3_traderAt 5 = .ok (.iload_n 1, 1) := dk_27 (dk_at dksX3_traderAt_0 5 rfl rfl)
theorem dX3_traderAt_6 : decode cX3_traderAt 6 = .ok (.invokestatic 110, 3) := dk_184 0 110 (dk_at dksX3_traderAt_0 6 rfl rfl)
theorem dX3_traderAt_9 : decode cX3_traderAt 9 = .ok (.ifCond .ne 9, 3) := dk_154 0 9 (dk_at dksX3_traderAt_0 9 rfl rfl)
theorem dX3_traderAt_12 : decode cX3_traderAt 12 = .ok (.aload_n 0, 1) := dk_42 (dk_at dksX3_traderAt_0 12 rfl rfl)
theorem dX3_traderAt_13 : decode cX3_traderAt 13 = .ok (.iconst 1, 1) := dk_4 (dk_at dksX3_traderAt_0 13 rfl rfl)
theorem dX3_traderAt_14 : decode cX3_traderAt 14 = .ok (.invokevirtual 67, 3) := dk_182 0 67 (dk_at dksX3_traderAt_0 14 rfl rfl)
theorem dX3_traderAt_17 : decode cX3_traderAt 17 = .ok (.ireturn, 1) := dk_172 (dk_at dksX3_traderAt_0 17 rfl rfl)
theorem dX3_traderAt_18 : decode cX3_traderAt 18 = .ok (.aload_n 0, 1) := dk_42 (dk_at dksX3_traderAt_0 18 rfl rfl)
theorem dX3_traderAt_19 : decode cX3_traderAt 19 = .ok (.iload_n 1, 1) := dk_27 (dk_at dksX3_traderAt_0 19 rfl rfl)
theorem dX3_traderAt_20 : decode cX3_traderAt 20 = .ok (.iload_n 2, 1) := dk_28 (dk_at dksX3_traderAt_0 20 rfl rfl)
theorem dX3_traderAt_21 : decode cX3_traderAt 21 = .ok (.invokevirtual 122, 3) := dk_182 0 122 (dk_at dksX3_traderAt_0 21 rfl rfl)
theorem dX3_traderAt_24 : decode cX3_traderAt 24 = .ok (.iconst (-1), 1) := dk_2 (dk_at dksX3_traderAt_1 0 rfl rfl)
theorem dX3_traderAt_25 : decode cX3_traderAt 25 = .ok (.if_icmp .ne 11, 3) := dk_160 0 11 (dk_at dksX3_traderAt_1 1 rfl rfl)
theorem dX3_traderAt_28 : decode cX3_traderAt 28 = .ok (.aload_n 0, 1) := dk_42 (dk_at dksX3_traderAt_1 4 rfl rfl)
theorem dX3_traderAt_29 : decode cX3_traderAt 29 = .ok (.iconst 2, 1) := dk_5 (dk_at dksX3_traderAt_1 5 rfl rfl)
theorem dX3_traderAt_30 : decode cX3_traderAt 30 = .ok (.invokevirtual 67, 3) := dk_182 0 67 (dk_at dksX3_traderAt_1 6 rfl rfl)
theorem dX3_traderAt_33 : decode cX3_traderAt 33 = .ok (.goto 9, 3) := dk_167 0 9 (dk_at dksX3_traderAt_1 9 rfl rfl)
theorem dX3_traderAt_36 : decode cX3_traderAt 36 = .ok (.aload_n 0, 1) := dk_42 (dk_at dksX3_traderAt_1 12 rfl rfl)
theorem dX3_traderAt_37 : decode cX3_traderAt 37 = .ok (.iload_n 1, 1) := dk_27 (dk_at dksX3_traderAt_1 13 rfl rfl)
theorem dX3_traderAt_38 : decode cX3_traderAt 38 = .ok (.iload_n 2, 1) := dk_28 (dk_at dksX3_traderAt_1 14 rfl rfl)
theorem dX3_traderAt_39 : decode cX3_traderAt 39 = .ok (.invokevirtual 122, 3) := dk_182 0 122 (dk_at dksX3_traderAt_1 15 rfl rfl)
theorem dX3_traderAt_42 : decode cX3_traderAt 42 = .ok (.ireturn, 1) := dk_172 (dk_at dksX3_traderAt_1 18 rfl rfl)
abbrev cX3_place : ByteArray := prog_20_method_33_code
def yX3_place : MethodName := ⟨RX3, "place", "(II)I"⟩
def dkwX3_place_2 : List UInt8 := [132, 4, 1, 167, 255, 211, 2, 172]
abbrev dktX3_place_2 : List UInt8 := dkwX3_place_2 ++ []
def dkwX3_place_1 : List UInt8 := [16, 15, 21, 4, 96, 46, 27, 159, 0, 6, 167, 0, 13, 29, 154, 0, 6, 21, 4, 172, 132, 3, 255]
abbrev dktX3_place_1 : List UInt8 := dkwX3_place_1 ++ dktX3_place_2
def dkwX3_place_0 : List UInt8 := [28, 62, 3, 54, 4, 21, 4, 42, 180, 0, 7, 4, 46, 162, 0, 40, 29, 155, 0, 36, 42, 180, 0, 7]
abbrev dktX3_place_0 : List UInt8 := dkwX3_place_0 ++ dktX3_place_1
theorem dksX3_place_0 : cX3_place.data.toList.drop 0 = dktX3_place_0 := by decide +kernel
theorem dksX3_place_1 : cX3_place.data.toList.drop 24 = dktX3_place_1 := dk_seg dksX3_place_0 24 rfl rfl
theorem dksX3_place_2 : cX3_place.data.toList.drop 47 = dktX3_place_2 := dk_seg dksX3_place_1 23 rfl rfl
theorem dX3_place_0 : decode cX3_place 0 = .ok (.iload_n 2, 1) := dk_28 (dk_at dksX3_place_0 0 rfl rfl)
theorem dX3_place_1 : decode cX3_place 1 = .ok (.istore_n 3, 1) := dk_62 (dk_at dksX3_place_0 1 rfl rfl)
theorem dX3_place_2 : decode cX3_place 2 = .ok (.iconst 0, 1) := dk_3 (dk_at dksX3_place_0 2 rfl rfl)
theorem dX3_place_3 : decode cX3_place 3 = .ok (.istore 4, 2) := dk_54 4 (dk_at dksX3_place_0 3 rfl rfl)
theorem dX3_place_5 : decode cX3_place 5 = .ok (.iload 4, 2) := dk_21 4 (dk_at dksX3_place_0 5 rfl rfl)
theorem dX3_place_7 : decode cX3_place 7 = .ok (.aload_n 0, 1) := dk_42 (dk_at dksX3_place_0 7 rfl rfl)
theorem dX3_place_8 : decode cX3_place 8 = .ok (.getfield 7, 3) := dk_180 0 7 (dk_at dksX3_place_0 8 rfl rfl)
theorem dX3_place_11 : decode cX3_place 11 = .ok (.iconst 1, 1) := dk_4 (dk_at dksX3_place_0 11 rfl rfl)
theorem dX3_place_12 : decode cX3_place 12 = .ok (.iaload, 1) := dk_46 (dk_at dksX3_place_0 12 rfl rfl)
theorem dX3_place_13 : decode cX3_place 13 = .ok (.if_icmp .ge 40, 3) := dk_162 0 40 (dk_at dksX3_place_0 13 rfl rfl)
theorem dX3_place_16 : decode cX3_place 16 = .ok (.iload_n 3, 1) := dk_29 (dk_at dksX3_place_0 16 rfl rfl)
theorem dX3_place_17 : decode cX3_place 17 = .ok (.ifCond .lt 36, 3) := dk_155 0 36 (dk_at dksX3_place_0 17 rfl rfl)
theorem dX3_place_20 : decode cX3_place 20 = .ok (.aload_n 0, 1) := dk_42 (dk_at dksX3_place_0 20 rfl rfl)
theorem dX3_place_21 : decode cX3_place 21 = .ok (.getfield 7, 3) := dk_180 0 7 (dk_at dksX3_place_0 21 rfl rfl)
theorem dX3_place_24 : decode cX3_place 24 = .ok (.bipush 15, 2) := dk_16 15 (dk_at dksX3_place_1 0 rfl rfl)
theorem dX3_place_26 : decode cX3_place 26 = .ok (.iload 4, 2) := dk_21 4 (dk_at dksX3_place_1 2 rfl rfl)
theorem dX3_place_28 : decode cX3_place 28 = .ok (.iadd, 1) := dk_96 (dk_at dksX3_place_1 4 rfl rfl)
theorem dX3_place_29 : decode cX3_place 29 = .ok (.iaload, 1) := dk_46 (dk_at dksX3_place_1 5 rfl rfl)
theorem dX3_place_30 : decode cX3_place 30 = .ok (.iload_n 1, 1) := dk_27 (dk_at dksX3_place_1 6 rfl rfl)
theorem dX3_place_31 : decode cX3_place 31 = .ok (.if_icmp .eq 6, 3) := dk_159 0 6 (dk_at dksX3_place_1 7 rfl rfl)
theorem dX3_place_34 : decode cX3_place 34 = .ok (.goto 13, 3) := dk_167 0 13 (dk_at dksX3_place_1 10 rfl rfl)
theorem dX3_place_37 : decode cX3_place 37 = .ok (.iload_n 3, 1) := dk_29 (dk_at dksX3_place_1 13 rfl rfl)
theorem dX3_place_38 : decode cX3_place 38 = .ok (.ifCond .ne 6, 3) := dk_154 0 6 (dk_at dksX3_place_1 14 rfl rfl)
theorem dX3_place_41 : decode cX3_place 41 = .ok (.iload 4, 2) := dk_21 4 (dk_at dksX3_place_1 17 rfl rfl)
theorem dX3_place_43 : decode cX3_place 43 = .ok (.ireturn, 1) := dk_172 (dk_at dksX3_place_1 19 rfl rfl)
theorem dX3_place_44 : decode cX3_place 44 = .ok (.iinc 3 (-1), 3) := dk_132 3 255 (dk_at dksX3_place_1 20 rfl rfl)
theorem dX3_place_47 : decode cX3_place 47 = .ok (.iinc 4 1, 3) := dk_132 4 1 (dk_at dksX3_place_2 0 rfl rfl)
theorem dX3_place_50 : decode cX3_place 50 = .ok (.goto (-45), 3) := dk_167 255 211 (dk_at dksX3_place_2 3 rfl rfl)
theorem dX3_place_53 : decode cX3_place 53 = .ok (.iconst (-1), 1) := dk_2 (dk_at dksX3_place_2 6 rfl rfl)
theorem dX3_place_54 : decode cX3_place 54 = .ok (.ireturn, 1) := dk_172 (dk_at dksX3_place_2 7 rfl rfl)
abbrev cX3_fairOf : ByteArray := prog_20_method_37_code
def yX3_fairOf : MethodName := ⟨RX3, "fairOf", "(II)I"⟩
def dkwX3_fairOf_4 : List UInt8 := [172]
abbrev dktX3_fairOf_4 : List UInt8 := dkwX3_fairOf_4 ++ []
def dkwX3_fairOf_3 : List UInt8 := [182, 0, 74, 100, 8, 96, 8, 112, 172, 42, 180, 0, 7, 16, 10, 27, 96, 46, 172, 42, 5, 182, 0, 67]
abbrev dktX3_fairOf_3 : List UInt8 := dkwX3_fairOf_3 ++ dktX3_fairOf_4
def dkwX3_fairOf_2 : List UInt8 := [42, 180, 0, 7, 8, 27, 96, 46, 172, 42, 27, 182, 0, 125, 172, 42, 27, 182, 0, 128, 172, 27, 42]
abbrev dktX3_fairOf_2 : List UInt8 := dkwX3_fairOf_2 ++ dktX3_fairOf_3
def dkwX3_fairOf_1 : List UInt8 := [170, 0, 0, 0, 75, 0, 0, 0, 0, 0, 0, 0, 4, 0, 0, 0, 33, 0, 0, 0, 42, 0, 0, 0, 48, 0, 0, 0, 54, 0, 0, 0, 65]
abbrev dktX3_fairOf_1 : List UInt8 := dkwX3_fairOf_1 ++ dktX3_fairOf_2
def dkwX3_fairOf_0 : List UInt8 := [42, 3, 181, 0, 41, 27, 184, 0, 110, 154, 0, 9, 42, 4, 182, 0, 67, 172, 28]
abbrev dktX3_fairOf_0 : List UInt8 := dkwX3_fairOf_0 ++ dktX3_fairOf_1
theorem dksX3_fairOf_0 : cX3_fairOf.data.toList.drop 0 = dktX3_fairOf_0 := by decide +kernel
theorem dksX3_fairOf_1 : cX3_fairOf.data.toList.drop 19 = dktX3_fairOf_1 := dk_seg dksX3_fairOf_0 19 rfl rfl
theorem dksX3_fairOf_2 : cX3_fairOf.data.toList.drop 52 = dktX3_fairOf_2 := dk_seg dksX3_fairOf_1 33 rfl rfl
theorem dksX3_fairOf_3 : cX3_fairOf.data.toList.drop 75 = dktX3_fairOf_3 := dk_seg dksX3_fairOf_2 23 rfl rfl
theorem dksX3_fairOf_4 : cX3_fairOf.data.toList.drop 99 = dktX3_fairOf_4 := dk_seg dksX3_fairOf_3 24 rfl rfl
theorem dX3_fairOf_0 : decode cX3_fairOf 0 = .ok (.aload_n 0, 1) := dk_42 (dk_at dksX3_fairOf_0 0 rfl rfl)
theorem dX3_fairOf_1 : decode cX3_fairOf 1 = .ok (.iconst 0, 1) := dk_3 (dk_at dksX3_fairOf_0 1 rfl rfl)
theorem dX3_fairOf_2 : decode cX3_fairOf 2 = .ok (.putfield 41, 3) := dk_181 0 41 (dk_at dksX3_fairOf_0 2 rfl rfl)
theorem dX3_fairOf_5 : decode cX3_fairOf 5 = .ok (.iload_n 1, 1) := dk_27 (dk_at dksX3_fairOf_0 5 rfl rfl)
theorem dX3_fairOf_6 : decode cX3_fairOf 6 = .ok (.invokestatic 110, 3) := dk_184 0 110 (dk_at dksX3_fairOf_0 6 rfl rfl)
theorem dX3_fairOf_9 : decode cX3_fairOf 9 = .ok (.ifCond .ne 9, 3) := dk_154 0 9 (dk_at dksX3_fairOf_0 9 rfl rfl)
theorem dX3_fairOf_12 : decode cX3_fairOf 12 = .ok (.aload_n 0, 1) := dk_42 (dk_at dksX3_fairOf_0 12 rfl rfl)
theorem dX3_fairOf_13 : decode cX3_fairOf 13 = .ok (.iconst 1, 1) := dk_4 (dk_at dksX3_fairOf_0 13 rfl rfl)
theorem dX3_fairOf_14 : decode cX3_fairOf 14 = .ok (.invokevirtual 67, 3) := dk_182 0 67 (dk_at dksX3_fairOf_0 14 rfl rfl)
theorem dX3_fairOf_17 : decode cX3_fairOf 17 = .ok (.ireturn, 1) := dk_172 (dk_at dksX3_fairOf_0 17 rfl rfl)
theorem dX3_fairOf_18 : decode cX3_fairOf 18 = .ok (.iload_n 2, 1) := dk_28 (dk_at dksX3_fairOf_0 18 rfl rfl)
theorem dX3_fairOf_19 : decode cX3_fairOf 19 = .ok (.tableswitch 75 0 4 #[33, 42, 48, 54, 65], 33) := by decide +kernel
theorem dX3_fairOf_52 : decode cX3_fairOf 52 = .ok (.aload_n 0, 1) := dk_42 (dk_at dksX3_fairOf_2 0 rfl rfl)
theorem dX3_fairOf_53 : decode cX3_fairOf 53 = .ok (.getfield 7, 3) := dk_180 0 7 (dk_at dksX3_fairOf_2 1 rfl rfl)
theorem dX3_fairOf_56 : decode cX3_fairOf 56 = .ok (.iconst 5, 1) := dk_8 (dk_at dksX3_fairOf_2 4 rfl rfl)
theorem dX3_fairOf_57 : decode cX3_fairOf 57 = .ok (.iload_n 1, 1) := dk_27 (dk_at dksX3_fairOf_2 5 rfl rfl)
theorem dX3_fairOf_58 : decode cX3_fairOf 58 = .ok (.iadd, 1) := dk_96 (dk_at dksX3_fairOf_2 6 rfl rfl)
theorem dX3_fairOf_59 : decode cX3_fairOf 59 = .ok (.iaload, 1) := dk_46 (dk_at dksX3_fairOf_2 7 rfl rfl)
theorem dX3_fairOf_60 : decode cX3_fairOf 60 = .ok (.ireturn, 1) := dk_172 (dk_at dksX3_fairOf_2 8 rfl rfl)
theorem dX3_fairOf_61 : decode cX3_fairOf 61 = .ok (.aload_n 0, 1) := dk_42 (dk_at dksX3_fairOf_2 9 rfl rfl)
theorem dX3_fairOf_62 : decode cX3_fairOf 62 = .ok (.iload_n 1, 1) := dk_27 (dk_at dksX3_fairOf_2 10 rfl rfl)
theorem dX3_fairOf_63 : decode cX3_fairOf 63 = .ok (.invokevirtual 125, 3) := dk_182 0 125 (dk_at dksX3_fairOf_2 11 rfl rfl)
theorem dX3_fairOf_66 : decode cX3_fairOf 66 = .ok (.ireturn, 1) := dk_172 (dk_at dksX3_fairOf_2 14 rfl rfl)
theorem dX3_fairOf_67 : decode cX3_fairOf 67 = .ok (.aload_n 0, 1) := dk_42 (dk_at dksX3_fairOf_2 15 rfl rfl)
theorem dX3_fairOf_68 : decode cX3_fairOf 68 = .ok (.iload_n 1, 1) := dk_27 (dk_at dksX3_fairOf_2 16 rfl rfl)
theorem dX3_fairOf_69 : decode cX3_fairOf 69 = .ok (.invokevirtual 128, 3) := dk_182 0 128 (dk_at dksX3_fairOf_2 17 rfl rfl)
theorem dX3_fairOf_72 : decode cX3_fairOf 72 = .ok (.ireturn, 1) := dk_172 (dk_at dksX3_fairOf_2 20 rfl rfl)
theorem dX3_fairOf_73 : decode cX3_fairOf 73 = .ok (.iload_n 1, 1) := dk_27 (dk_at dksX3_fairOf_2 21 rfl rfl)
theorem dX3_fairOf_74 : decode cX3_fairOf 74 = .ok (.aload_n 0, 1) := dk_42 (dk_at dksX3_fairOf_2 22 rfl rfl)
theorem dX3_fairOf_75 : decode cX3_fairOf 75 = .ok (.invokevirtual 74, 3) := dk_182 0 74 (dk_at dksX3_fairOf_3 0 rfl rfl)
theorem dX3_fairOf_78 : decode cX3_fairOf 78 = .ok (.isub, 1) := dk_100 (dk_at dksX3_fairOf_3 3 rfl rfl)
theorem dX3_fairOf_79 : decode cX3_fairOf 79 = .ok (.iconst 5, 1) := dk_8 (dk_at dksX3_fairOf_3 4 rfl rfl)
theorem dX3_fairOf_80 : decode cX3_fairOf 80 = .ok (.iadd, 1) := dk_96 (dk_at dksX3_fairOf_3 5 rfl rfl)
theorem dX3_fairOf_81 : decode cX3_fairOf 81 = .ok (.iconst 5, 1) := dk_8 (dk_at dksX3_fairOf_3 6 rfl rfl)
theorem dX3_fairOf_82 : decode cX3_fairOf 82 = .ok (.irem, 1) := dk_112 (dk_at dksX3_fairOf_3 7 rfl rfl)
theorem dX3_fairOf_83 : decode cX3_fairOf 83 = .ok (.ireturn, 1) := dk_172 (dk_at dksX3_fairOf_3 8 rfl rfl)
theorem dX3_fairOf_84 : decode cX3_fairOf 84 = .ok (.aload_n 0, 1) := dk_42 (dk_at dksX3_fairOf_3 9 rfl rfl)
theorem dX3_fairOf_85 : decode cX3_fairOf 85 = .ok (.getfield 7, 3) := dk_180 0 7 (dk_at dksX3_fairOf_3 10 rfl rfl)
theorem dX3_fairOf_88 : decode cX3_fairOf 88 = .ok (.bipush 10, 2) := dk_16 10 (dk_at dksX3_fairOf_3 13 rfl rfl)
theorem dX3_fairOf_90 : decode cX3_fairOf 90 = .ok (.iload_n 1, 1) := dk_27 (dk_at dksX3_fairOf_3 15 rfl rfl)
theorem dX3_fairOf_91 : decode cX3_fairOf 91 = .ok (.iadd, 1) := dk_96 (dk_at dksX3_fairOf_3 16 rfl rfl)
theorem dX3_fairOf_92 : decode cX3_fairOf 92 = .ok (.iaload, 1) := dk_46 (dk_at dksX3_fairOf_3 17 rfl rfl)
theorem dX3_fairOf_93 : decode cX3_fairOf 93 = .ok (.ireturn, 1) := dk_172 (dk_at dksX3_fairOf_3 18 rfl rfl)
theorem dX3_fairOf_94 : decode cX3_fairOf 94 = .ok (.aload_n 0, 1) := dk_42 (dk_at dksX3_fairOf_3 19 rfl rfl)
theorem dX3_fairOf_95 : decode cX3_fairOf 95 = .ok (.iconst 2, 1) := dk_5 (dk_at dksX3_fairOf_3 20 rfl rfl)
theorem dX3_fairOf_96 : decode cX3_fairOf 96 = .ok (.invokevirtual 67, 3) := dk_182 0 67 (dk_at dksX3_fairOf_3 21 rfl rfl)
theorem dX3_fairOf_99 : decode cX3_fairOf 99 = .ok (.ireturn, 1) := dk_172 (dk_at dksX3_fairOf_4 0 rfl rfl)
abbrev cX3_tradersOf : ByteArray := prog_20_method_36_code
def yX3_tradersOf : MethodName := ⟨RX3, "tradersOf", "(I)I"⟩
def dkwX3_tradersOf_1 : List UInt8 := [27, 160, 0, 7, 4, 167, 0, 4, 3, 96, 61, 132, 3, 1, 167, 255, 222, 28, 172]
abbrev dktX3_tradersOf_1 : List UInt8 := dkwX3_tradersOf_1 ++ []
def dkwX3_tradersOf_0 : List UInt8 := [3, 61, 3, 62, 29, 42, 180, 0, 7, 4, 46, 162, 0, 30, 28, 42, 180, 0, 7, 16, 15, 29, 96, 46]
abbrev dktX3_tradersOf_0 : List UInt8 := dkwX3_tradersOf_0 ++ dktX3_tradersOf_1
theorem dksX3_tradersOf_0 : cX3_tradersOf.data.toList.drop 0 = dktX3_tradersOf_0 := by decide +kernel
theorem dksX3_tradersOf_1 : cX3_tradersOf.data.toList.drop 24 = dktX3_tradersOf_1 := dk_seg dksX3_tradersOf_0 24 rfl rfl
theorem dX3_tradersOf_0 : decode cX3_tradersOf 0 = .ok (.iconst 0, 1) := dk_3 (dk_at dksX3_tradersOf_0 0 rfl rfl)
theorem dX3_tradersOf_1 : decode cX3_tradersOf 1 = .ok (.istore_n 2, 1) := dk_61 (dk_at dksX3_tradersOf_0 1 rfl rfl)
theorem dX3_tradersOf_2 : decode cX3_tradersOf 2 = .ok (.iconst 0, 1) := dk_3 (dk_at dksX3_tradersOf_0 2 rfl rfl)
theorem dX3_tradersOf_3 : decode cX3_tradersOf 3 = .ok (.istore_n 3, 1) := dk_62 (dk_at dksX3_tradersOf_0 3 rfl rfl)
theorem dX3_tradersOf_4 : decode cX3_tradersOf 4 = .ok (.iload_n 3, 1) := dk_29 (dk_at dksX3_tradersOf_0 4 rfl rfl)
theorem dX3_tradersOf_5 : decode cX3_tradersOf 5 = .ok (.aload_n 0, 1) := dk_42 (dk_at dksX3_tradersOf_0 5 rfl rfl)
theorem dX3_tradersOf_6 : decode cX3_tradersOf 6 = .ok (.getfield 7, 3) := dk_180 0 7 (dk_at dksX3_tradersOf_0 6 rfl rfl)
theorem dX3_tradersOf_9 : decode cX3_tradersOf 9 = .ok (.iconst 1, 1) := dk_4 (dk_at dksX3_tradersOf_0 9 rfl rfl)
theorem dX3_tradersOf_10 : decode cX3_tradersOf 10 = .ok (.iaload, 1) := dk_46 (dk_at dksX3_tradersOf_0 10 rfl rfl)
theorem dX3_tradersOf_11 : decode cX3_tradersOf 11 = .ok (.if_icmp .ge 30, 3) := dk_162 0 30 (dk_at dksX3_tradersOf_0 11 rfl rfl)
theorem dX3_tradersOf_14 : decode cX3_tradersOf 14 = .ok (.iload_n 2, 1) := dk_28 (dk_at dksX3_tradersOf_0 14 rfl rfl)
theorem dX3_tradersOf_15 : decode cX3_tradersOf 15 = .ok (.aload_n 0, 1) := dk_42 (dk_at dksX3_tradersOf_0 15 rfl rfl)
theorem dX3_tradersOf_16 : decode cX3_tradersOf 16 = .ok (.getfield 7, 3) := dk_180 0 7 (dk_at dksX3_tradersOf_0 16 rfl rfl)
theorem dX3_tradersOf_19 : decode cX3_tradersOf 19 = .ok (.bipush 15, 2) := dk_16 15 (dk_at dksX3_tradersOf_0 19 rfl rfl)
theorem dX3_tradersOf_21 : decode cX3_tradersOf 21 = .ok (.iload_n 3, 1) := dk_29 (dk_at dksX3_tradersOf_0 21 rfl rfl)
theorem dX3_tradersOf_22 : decode cX3_tradersOf 22 = .ok (.iadd, 1) := dk_96 (dk_at dksX3_tradersOf_0 22 rfl rfl)
theorem dX3_tradersOf_23 : decode cX3_tradersOf 23 = .ok (.iaload, 1) := dk_46 (dk_at dksX3_tradersOf_0 23 rfl rfl)
theorem dX3_tradersOf_24 : decode cX3_tradersOf 24 = .ok (.iload_n 1, 1) := dk_27 (dk_at dksX3_tradersOf_1 0 rfl rfl)
theorem dX3_tradersOf_25 : decode cX3_tradersOf 25 = .ok (.if_icmp .ne 7, 3) := dk_160 0 7 (dk_at dksX3_tradersOf_1 1 rfl rfl)
theorem dX3_tradersOf_28 : decode cX3_tradersOf 28 = .ok (.iconst 1, 1) := dk_4 (dk_at dksX3_tradersOf_1 4 rfl rfl)
theorem dX3_tradersOf_29 : decode cX3_tradersOf 29 = .ok (.goto 4, 3) := dk_167 0 4 (dk_at dksX3_tradersOf_1 5 rfl rfl)
theorem dX3_tradersOf_32 : decode cX3_tradersOf 32 = .ok (.iconst 0, 1) := dk_3 (dk_at dksX3_tradersOf_1 8 rfl rfl)
theorem dX3_tradersOf_33 : decode cX3_tradersOf 33 = .ok (.iadd, 1) := dk_96 (dk_at dksX3_tradersOf_1 9 rfl rfl)
theorem dX3_tradersOf_34 : decode cX3_tradersOf 34 = .ok (.istore_n 2, 1) := dk_61 (dk_at dksX3_tradersOf_1 10 rfl rfl)
theorem dX3_tradersOf_35 : decode cX3_tradersOf 35 = .ok (.iinc 3 1, 3) := dk_132 3 1 (dk_at dksX3_tradersOf_1 11 rfl rfl)
theorem dX3_tradersOf_38 : decode cX3_tradersOf 38 = .ok (.goto (-34), 3) := dk_167 255 222 (dk_at dksX3_tradersOf_1 14 rfl rfl)
theorem dX3_tradersOf_41 : decode cX3_tradersOf 41 = .ok (.iload_n 2, 1) := dk_28 (dk_at dksX3_tradersOf_1 17 rfl rfl)
theorem dX3_tradersOf_42 : decode cX3_tradersOf 42 = .ok (.ireturn, 1) := dk_172 (dk_at dksX3_tradersOf_1 18 rfl rfl)
abbrev cX3_seals : ByteArray := prog_20_method_35_code
def yX3_seals : MethodName := ⟨RX3, "seals", "(I)I"⟩
def dkwX3_seals_2 : List UInt8 := [167, 0, 4, 3, 96, 61, 132, 3, 1, 167, 255, 204, 28, 172]
abbrev dktX3_seals_2 : List UInt8 := dkwX3_seals_2 ++ []
def dkwX3_seals_1 : List UInt8 := [16, 15, 29, 96, 46, 27, 160, 0, 20, 42, 180, 0, 7, 16, 65, 29, 96, 46, 2, 159, 0, 7, 4]
abbrev dktX3_seals_1 : List UInt8 := dkwX3_seals_1 ++ dktX3_seals_2
def dkwX3_seals_0 : List UInt8 := [3, 61, 3, 62, 29, 42, 180, 0, 7, 4, 46, 162, 0, 48, 28, 27, 2, 159, 0, 16, 42, 180, 0, 7]
abbrev dktX3_seals_0 : List UInt8 := dkwX3_seals_0 ++ dktX3_seals_1
theorem dksX3_seals_0 : cX3_seals.data.toList.drop 0 = dktX3_seals_0 := by decide +kernel
theorem dksX3_seals_1 : cX3_seals.data.toList.drop 24 = dktX3_seals_1 := dk_seg dksX3_seals_0 24 rfl rfl
theorem dksX3_seals_2 : cX3_seals.data.toList.drop 47 = dktX3_seals_2 := dk_seg dksX3_seals_1 23 rfl rfl
theorem dX3_seals_0 : decode cX3_seals 0 = .ok (.iconst 0, 1) := dk_3 (dk_at dksX3_seals_0 0 rfl rfl)
theorem dX3_seals_1 : decode cX3_seals 1 = .ok (.istore_n 2, 1) := dk_61 (dk_at dksX3_seals_0 1 rfl rfl)
theorem dX3_seals_2 : decode cX3_seals 2 = .ok (.iconst 0, 1) := dk_3 (dk_at dksX3_seals_0 2 rfl rfl)
theorem dX3_seals_3 : decode cX3_seals 3 = .ok (.istore_n 3, 1) := dk_62 (dk_at dksX3_seals_0 3 rfl rfl)
theorem dX3_seals_4 : decode cX3_seals 4 = .ok (.iload_n 3, 1) := dk_29 (dk_at dksX3_seals_0 4 rfl rfl)
theorem dX3_seals_5 : decode cX3_seals 5 = .ok (.aload_n 0, 1) := dk_42 (dk_at dksX3_seals_0 5 rfl rfl)
theorem dX3_seals_6 : decode cX3_seals 6 = .ok (.getfield 7, 3) := dk_180 0 7 (dk_at dksX3_seals_0 6 rfl rfl)
theorem dX3_seals_9 : decode cX3_seals 9 = .ok (.iconst 1, 1) := dk_4 (dk_at dksX3_seals_0 9 rfl rfl)
theorem dX3_seals_10 : decode cX3_seals 10 = .ok (.iaload, 1) := dk_46 (dk_at dksX3_seals_0 10 rfl rfl)
theorem dX3_seals_11 : decode cX3_seals 11 = .ok (.if_icmp .ge 48, 3) := dk_162 0 48 (dk_at dksX3_seals_0 11 rfl rfl)
theorem dX3_seals_14 : decode cX3_seals 14 = .ok (.iload_n 2, 1) := dk_28 (dk_at dksX3_seals_0 14 rfl rfl)
theorem dX3_seals_15 : decode cX3_seals 15 = .ok (.iload_n 1, 1) := dk_27 (dk_at dksX3_seals_0 15 rfl rfl)
theorem dX3_seals_16 : decode cX3_seals 16 = .ok (.iconst (-1), 1) := dk_2 (dk_at dksX3_seals_0 16 rfl rfl)
theorem dX3_seals_17 : decode cX3_seals 17 = .ok (.if_icmp .eq 16, 3) := dk_159 0 16 (dk_at dksX3_seals_0 17 rfl rfl)
theorem dX3_seals_20 : decode cX3_seals 20 = .ok (.aload_n 0, 1) := dk_42 (dk_at dksX3_seals_0 20 rfl rfl)
theorem dX3_seals_21 : decode cX3_seals 21 = .ok (.getfield 7, 3) := dk_180 0 7 (dk_at dksX3_seals_0 21 rfl rfl)
theorem dX3_seals_24 : decode cX3_seals 24 = .ok (.bipush 15, 2) := dk_16 15 (dk_at dksX3_seals_1 0 rfl rfl)
theorem dX3_seals_26 : decode cX3_seals 26 = .ok (.iload_n 3, 1) := dk_29 (dk_at dksX3_seals_1 2 rfl rfl)
theorem dX3_seals_27 : decode cX3_seals 27 = .ok (.iadd, 1) := dk_96 (dk_at dksX3_seals_1 3 rfl rfl)
theorem dX3_seals_28 : decode cX3_seals 28 = .ok (.iaload, 1) := dk_46 (dk_at dksX3_seals_1 4 rfl rfl)
theorem dX3_seals_29 : decode cX3_seals 29 = .ok (.iload_n 1, 1) := dk_27 (dk_at dksX3_seals_1 5 rfl rfl)
theorem dX3_seals_30 : decode cX3_seals 30 = .ok (.if_icmp .ne 20, 3) := dk_160 0 20 (dk_at dksX3_seals_1 6 rfl rfl)
theorem dX3_seals_33 : decode cX3_seals 33 = .ok (.aload_n 0, 1) := dk_42 (dk_at dksX3_seals_1 9 rfl rfl)
theorem dX3_seals_34 : decode cX3_seals 34 = .ok (.getfield 7, 3) := dk_180 0 7 (dk_at dksX3_seals_1 10 rfl rfl)
theorem dX3_seals_37 : decode cX3_seals 37 = .ok (.bipush 65, 2) := dk_16 65 (dk_at dksX3_seals_1 13 rfl rfl)
theorem dX3_seals_39 : decode cX3_seals 39 = .ok (.iload_n 3, 1) := dk_29 (dk_at dksX3_seals_1 15 rfl rfl)
theorem dX3_seals_40 : decode cX3_seals 40 = .ok (.iadd, 1) := dk_96 (dk_at dksX3_seals_1 16 rfl rfl)
theorem dX3_seals_41 : decode cX3_seals 41 = .ok (.iaload, 1) := dk_46 (dk_at dksX3_seals_1 17 rfl rfl)
theorem dX3_seals_42 : decode cX3_seals 42 = .ok (.iconst (-1), 1) := dk_2 (dk_at dksX3_seals_1 18 rfl rfl)
theorem dX3_seals_43 : decode cX3_seals 43 = .ok (.if_icmp .eq 7, 3) := dk_159 0 7 (dk_at dksX3_seals_1 19 rfl rfl)
theorem dX3_seals_46 : decode cX3_seals 46 = .ok (.iconst 1, 1) := dk_4 (dk_at dksX3_seals_1 22 rfl rfl)
theorem dX3_seals_47 : decode cX3_seals 47 = .ok (.goto 4, 3) := dk_167 0 4 (dk_at dksX3_seals_2 0 rfl rfl)
theorem dX3_seals_50 : decode cX3_seals 50 = .ok (.iconst 0, 1) := dk_3 (dk_at dksX3_seals_2 3 rfl rfl)
theorem dX3_seals_51 : decode cX3_seals 51 = .ok (.iadd, 1) := dk_96 (dk_at dksX3_seals_2 4 rfl rfl)
theorem dX3_seals_52 : decode cX3_seals 52 = .ok (.istore_n 2, 1) := dk_61 (dk_at dksX3_seals_2 5 rfl rfl)
theorem dX3_seals_53 : decode cX3_seals 53 = .ok (.iinc 3 1, 3) := dk_132 3 1 (dk_at dksX3_seals_2 6 rfl rfl)
theorem dX3_seals_56 : decode cX3_seals 56 = .ok (.goto (-52), 3) := dk_167 255 204 (dk_at dksX3_seals_2 9 rfl rfl)
theorem dX3_seals_59 : decode cX3_seals 59 = .ok (.iload_n 2, 1) := dk_28 (dk_at dksX3_seals_2 12 rfl rfl)
theorem dX3_seals_60 : decode cX3_seals 60 = .ok (.ireturn, 1) := dk_172 (dk_at dksX3_seals_2 13 rfl rfl)
abbrev cX3_fairNow : ByteArray := prog_20_method_14_code
def yX3_fairNow : MethodName := ⟨RX3, "fairNow", "()I"⟩
def dkwX3_fairNow_0 : List UInt8 := [42, 180, 0, 7, 3, 46, 8, 112, 172]
abbrev dktX3_fairNow_0 : List UInt8 := dkwX3_fairNow_0 ++ []
theorem dksX3_fairNow_0 : cX3_fairNow.data.toList.drop 0 = dktX3_fairNow_0 := by decide +kernel
theorem dX3_fairNow_0 : decode cX3_fairNow 0 = .ok (.aload_n 0, 1) := dk_42 (dk_at dksX3_fairNow_0 0 rfl rfl)
theorem dX3_fairNow_1 : decode cX3_fairNow 1 = .ok (.getfield 7, 3) := dk_180 0 7 (dk_at dksX3_fairNow_0 1 rfl rfl)
theorem dX3_fairNow_4 : decode cX3_fairNow 4 = .ok (.iconst 0, 1) := dk_3 (dk_at dksX3_fairNow_0 4 rfl rfl)
theorem dX3_fairNow_5 : decode cX3_fairNow 5 = .ok (.iaload, 1) := dk_46 (dk_at dksX3_fairNow_0 5 rfl rfl)
theorem dX3_fairNow_6 : decode cX3_fairNow 6 = .ok (.iconst 5, 1) := dk_8 (dk_at dksX3_fairNow_0 6 rfl rfl)
theorem dX3_fairNow_7 : decode cX3_fairNow 7 = .ok (.irem, 1) := dk_112 (dk_at dksX3_fairNow_0 7 rfl rfl)
theorem dX3_fairNow_8 : decode cX3_fairNow 8 = .ok (.ireturn, 1) := dk_172 (dk_at dksX3_fairNow_0 8 rfl rfl)
abbrev cX3_next : ByteArray := prog_20_method_38_code
def yX3_next : MethodName := ⟨RX3, "next", "()I"⟩
def dkwX3_next_4 : List UInt8 := [132, 2, 1, 167, 255, 171, 27, 2, 160, 0, 11, 42, 4, 182, 0, 67, 167, 0, 4, 27, 172]
abbrev dktX3_next_4 : List UInt8 := dkwX3_next_4 ++ []
def dkwX3_next_3 : List UInt8 := [180, 0, 7, 16, 95, 28, 96, 46, 42, 180, 0, 7, 16, 95, 27, 96, 46, 162, 0, 5, 28, 60]
abbrev dktX3_next_3 : List UInt8 := dkwX3_next_3 ++ dktX3_next_4
def dkwX3_next_2 : List UInt8 := [180, 0, 7, 3, 46, 159, 0, 7, 4, 167, 0, 4, 3, 62, 29, 153, 0, 31, 27, 2, 159, 0, 24, 42]
abbrev dktX3_next_2 : List UInt8 := dkwX3_next_2 ++ dktX3_next_3
def dkwX3_next_1 : List UInt8 := [16, 15, 28, 96, 46, 42, 182, 0, 74, 160, 0, 25, 42, 180, 0, 7, 16, 95, 28, 96, 46, 42]
abbrev dktX3_next_1 : List UInt8 := dkwX3_next_1 ++ dktX3_next_2
def dkwX3_next_0 : List UInt8 := [42, 3, 181, 0, 41, 2, 60, 3, 61, 28, 42, 180, 0, 7, 4, 46, 162, 0, 81, 42, 180, 0, 7]
abbrev dktX3_next_0 : List UInt8 := dkwX3_next_0 ++ dktX3_next_1
theorem dksX3_next_0 : cX3_next.data.toList.drop 0 = dktX3_next_0 := by decide +kernel
theorem dksX3_next_1 : cX3_next.data.toList.drop 23 = dktX3_next_1 := dk_seg dksX3_next_0 23 rfl rfl
theorem dksX3_next_2 : cX3_next.data.toList.drop 45 = dktX3_next_2 := dk_seg dksX3_next_1 22 rfl rfl
theorem dksX3_next_3 : cX3_next.data.toList.drop 69 = dktX3_next_3 := dk_seg dksX3_next_2 24 rfl rfl
theorem dksX3_next_4 : cX3_next.data.toList.drop 91 = dktX3_next_4 := dk_seg dksX3_next_3 22 rfl rfl
theorem dX3_next_0 : decode cX3_next 0 = .ok (.aload_n 0, 1) := dk_42 (dk_at dksX3_next_0 0 rfl rfl)
theorem dX3_next_1 : decode cX3_next 1 = .ok (.iconst 0, 1) := dk_3 (dk_at dksX3_next_0 1 rfl rfl)
theorem dX3_next_2 : decode cX3_next 2 = .ok (.putfield 41, 3) := dk_181 0 41 (dk_at dksX3_next_0 2 rfl rfl)
theorem dX3_next_5 : decode cX3_next 5 = .ok (.iconst (-1), 1) := dk_2 (dk_at dksX3_next_0 5 rfl rfl)
theorem dX3_next_6 : decode cX3_next 6 = .ok (.istore_n 1, 1) := dk_60 (dk_at dksX3_next_0 6 rfl rfl)
theorem dX3_next_7 : decode cX3_next 7 = .ok (.iconst 0, 1) := dk_3 (dk_at dksX3_next_0 7 rfl rfl)
theorem dX3_next_8 : decode cX3_next 8 = .ok (.istore_n 2, 1) := dk_61 (dk_at dksX3_next_0 8 rfl rfl)
theorem dX3_next_9 : decode cX3_next 9 = .ok (.iload_n 2, 1) := dk_28 (dk_at dksX3_next_0 9 rfl rfl)
theorem dX3_next_10 : decode cX3_next 10 = .ok (.aload_n 0, 1) := dk_42 (dk_at dksX3_next_0 10 rfl rfl)
theorem dX3_next_11 : decode cX3_next 11 = .ok (.getfield 7, 3) := dk_180 0 7 (dk_at dksX3_next_0 11 rfl rfl)
theorem dX3_next_14 : decode cX3_next 14 = .ok (.iconst 1, 1) := dk_4 (dk_at dksX3_next_0 14 rfl rfl)
theorem dX3_next_15 : decode cX3_next 15 = .ok (.iaload, 1) := dk_46 (dk_at dksX3_next_0 15 rfl rfl)
theorem dX3_next_16 : decode cX3_next 16 = .ok (.if_icmp .ge 81, 3) := dk_162 0 81 (dk_at dksX3_next_0 16 rfl rfl)
theorem dX3_next_19 : decode cX3_next 19 = .ok (.aload_n 0, 1) := dk_42 (dk_at dksX3_next_0 19 rfl rfl)
theorem dX3_next_20 : decode cX3_next 20 = .ok (.getfield 7, 3) := dk_180 0 7 (dk_at dksX3_next_0 20 rfl rfl)
theorem dX3_next_23 : decode cX3_next 23 = .ok (.bipush 15, 2) := dk_16 15 (dk_at dksX3_next_1 0 rfl rfl)
theorem dX3_next_25 : decode cX3_next 25 = .ok (.iload_n 2, 1) := dk_28 (dk_at dksX3_next_1 2 rfl rfl)
theorem dX3_next_26 : decode cX3_next 26 = .ok (.iadd, 1) := dk_96 (dk_at dksX3_next_1 3 rfl rfl)
theorem dX3_next_27 : decode cX3_next 27 = .ok (.iaload, 1) := dk_46 (dk_at dksX3_next_1 4 rfl rfl)
theorem dX3_next_28 : decode cX3_next 28 = .ok (.aload_n 0, 1) := dk_42 (dk_at dksX3_next_1 5 rfl rfl)
theorem dX3_next_29 : decode cX3_next 29 = .ok (.invokevirtual 74, 3) := dk_182 0 74 (dk_at dksX3_next_1 6 rfl rfl)
theorem dX3_next_32 : decode cX3_next 32 = .ok (.if_icmp .ne 25, 3) := dk_160 0 25 (dk_at dksX3_next_1 9 rfl rfl)
theorem dX3_next_35 : decode cX3_next 35 = .ok (.aload_n 0, 1) := dk_42 (dk_at dksX3_next_1 12 rfl rfl)
theorem dX3_next_36 : decode cX3_next 36 = .ok (.getfield 7, 3) := dk_180 0 7 (dk_at dksX3_next_1 13 rfl rfl)
theorem dX3_next_39 : decode cX3_next 39 = .ok (.bipush 95, 2) := dk_16 95 (dk_at dksX3_next_1 16 rfl rfl)
theorem dX3_next_41 : decode cX3_next 41 = .ok (.iload_n 2, 1) := dk_28 (dk_at dksX3_next_1 18 rfl rfl)
theorem dX3_next_42 : decode cX3_next 42 = .ok (.iadd, 1) := dk_96 (dk_at dksX3_next_1 19 rfl rfl)
theorem dX3_next_43 : decode cX3_next 43 = .ok (.iaload, 1) := dk_46 (dk_at dksX3_next_1 20 rfl rfl)
theorem dX3_next_44 : decode cX3_next 44 = .ok (.aload_n 0, 1) := dk_42 (dk_at dksX3_next_1 21 rfl rfl)
theorem dX3_next_45 : decode cX3_next 45 = .ok (.getfield 7, 3) := dk_180 0 7 (dk_at dksX3_next_2 0 rfl rfl)
theorem dX3_next_48 : decode cX3_next 48 = .ok (.iconst 0, 1) := dk_3 (dk_at dksX3_next_2 3 rfl rfl)
theorem dX3_next_49 : decode cX3_next 49 = .ok (.iaload, 1) := dk_46 (dk_at dksX3_next_2 4 rfl rfl)
theorem dX3_next_50 : decode cX3_next 50 = .ok (.if_icmp .eq 7, 3) := dk_159 0 7 (dk_at dksX3_next_2 5 rfl rfl)
theorem dX3_next_53 : decode cX3_next 53 = .ok (.iconst 1, 1) := dk_4 (dk_at dksX3_next_2 8 rfl rfl)
theorem dX3_next_54 : decode cX3_next 54 = .ok (.goto 4, 3) := dk_167 0 4 (dk_at dksX3_next_2 9 rfl rfl)
theorem dX3_next_57 : decode cX3_next 57 = .ok (.iconst 0, 1) := dk_3 (dk_at dksX3_next_2 12 rfl rfl)
theorem dX3_next_58 : decode cX3_next 58 = .ok (.istore_n 3, 1) := dk_62 (dk_at dksX3_next_2 13 rfl rfl)
theorem dX3_next_59 : decode cX3_next 59 = .ok (.iload_n 3, 1) := dk_29 (dk_at dksX3_next_2 14 rfl rfl)
theorem dX3_next_60 : decode cX3_next 60 = .ok (.ifCond .eq 31, 3) := dk_153 0 31 (dk_at dksX3_next_2 15 rfl rfl)
theorem dX3_next_63 : decode cX3_next 63 = .ok (.iload_n 1, 1) := dk_27 (dk_at dksX3_next_2 18 rfl rfl)
theorem dX3_next_64 : decode cX3_next 64 = .ok (.iconst (-1), 1) := dk_2 (dk_at dksX3_next_2 19 rfl rfl)
theorem dX3_next_65 : decode cX3_next 65 = .ok (.if_icmp .eq 24, 3) := dk_159 0 24 (dk_at dksX3_next_2 20 rfl rfl)
theorem dX3_next_68 : decode cX3_next 68 = .ok (.aload_n 0, 1) := dk_42 (dk_at dksX3_next_2 23 rfl rfl)
theorem dX3_next_69 : decode cX3_next 69 = .ok (.getfield 7, 3) := dk_180 0 7 (dk_at dksX3_next_3 0 rfl rfl)
theorem dX3_next_72 : decode cX3_next 72 = .ok (.bipush 95, 2) := dk_16 95 (dk_at dksX3_next_3 3 rfl rfl)
theorem dX3_next_74 : decode cX3_next 74 = .ok (.iload_n 2, 1) := dk_28 (dk_at dksX3_next_3 5 rfl rfl)
theorem dX3_next_75 : decode cX3_next 75 = .ok (.iadd, 1) := dk_96 (dk_at dksX3_next_3 6 rfl rfl)
theorem dX3_next_76 : decode cX3_next 76 = .ok (.iaload, 1) := dk_46 (dk_at dksX3_next_3 7 rfl rfl)
theorem dX3_next_77 : decode cX3_next 77 = .ok (.aload_n 0, 1) := dk_42 (dk_at dksX3_next_3 8 rfl rfl)
theorem dX3_next_78 : decode cX3_next 78 = .ok (.getfield 7, 3) := dk_180 0 7 (dk_at dksX3_next_3 9 rfl rfl)
theorem dX3_next_81 : decode cX3_next 81 = .ok (.bipush 95, 2) := dk_16 95 (dk_at dksX3_next_3 12 rfl rfl)
theorem dX3_next_83 : decode cX3_next 83 = .ok (.iload_n 1, 1) := dk_27 (dk_at dksX3_next_3 14 rfl rfl)
theorem dX3_next_84 : decode cX3_next 84 = .ok (.iadd, 1) := dk_96 (dk_at dksX3_next_3 15 rfl rfl)
theorem dX3_next_85 : decode cX3_next 85 = .ok (.iaload, 1) := dk_46 (dk_at dksX3_next_3 16 rfl rfl)
theorem dX3_next_86 : decode cX3_next 86 = .ok (.if_icmp .ge 5, 3) := dk_162 0 5 (dk_at dksX3_next_3 17 rfl rfl)
theorem dX3_next_89 : decode cX3_next 89 = .ok (.iload_n 2, 1) := dk_28 (dk_at dksX3_next_3 20 rfl rfl)
theorem dX3_next_90 : decode cX3_next 90 = .ok (.istore_n 1, 1) := dk_60 (dk_at dksX3_next_3 21 rfl rfl)
theorem dX3_next_91 : decode cX3_next 91 = .ok (.iinc 2 1, 3) := dk_132 2 1 (dk_at dksX3_next_4 0 rfl rfl)
theorem dX3_next_94 : decode cX3_next 94 = .ok (.goto (-85), 3) := dk_167 255 171 (dk_at dksX3_next_4 3 rfl rfl)
theorem dX3_next_97 : decode cX3_next 97 = .ok (.iload_n 1, 1) := dk_27 (dk_at dksX3_next_4 6 rfl rfl)
theorem dX3_next_98 : decode cX3_next 98 = .ok (.iconst (-1), 1) := dk_2 (dk_at dksX3_next_4 7 rfl rfl)
theorem dX3_next_99 : decode cX3_next 99 = .ok (.if_icmp .ne 11, 3) := dk_160 0 11 (dk_at dksX3_next_4 8 rfl rfl)
theorem dX3_next_102 : decode cX3_next 102 = .ok (.aload_n 0, 1) := dk_42 (dk_at dksX3_next_4 11 rfl rfl)
theorem dX3_next_103 : decode cX3_next 103 = .ok (.iconst 1, 1) := dk_4 (dk_at dksX3_next_4 12 rfl rfl)
theorem dX3_next_104 : decode cX3_next 104 = .ok (.invokevirtual 67, 3) := dk_182 0 67 (dk_at dksX3_next_4 13 rfl rfl)
theorem dX3_next_107 : decode cX3_next 107 = .ok (.goto 4, 3) := dk_167 0 4 (dk_at dksX3_next_4 16 rfl rfl)
theorem dX3_next_110 : decode cX3_next 110 = .ok (.iload_n 1, 1) := dk_27 (dk_at dksX3_next_4 19 rfl rfl)
theorem dX3_next_111 : decode cX3_next 111 = .ok (.ireturn, 1) := dk_172 (dk_at dksX3_next_4 20 rfl rfl)
abbrev cX3_weight : ByteArray := prog_20_method_39_code
def yX3_weight : MethodName := ⟨RX3, "weight", "(I)I"⟩
def dkwX3_weight_3 : List UInt8 := [182, 0, 59, 172]
abbrev dktX3_weight_3 : List UInt8 := dkwX3_weight_3 ++ []
def dkwX3_weight_2 : List UInt8 := [172, 42, 180, 0, 7, 16, 105, 28, 96, 27, 79, 42, 180, 0, 7, 5, 28, 4, 96, 79, 42, 28]
abbrev dktX3_weight_2 : List UInt8 := dkwX3_weight_2 ++ dktX3_weight_3
def dkwX3_weight_1 : List UInt8 := [172, 42, 180, 0, 7, 5, 46, 61, 28, 7, 160, 0, 15, 42, 42, 4, 7, 182, 0, 95, 5, 182, 0, 113]
abbrev dktX3_weight_1 : List UInt8 := dkwX3_weight_1 ++ dktX3_weight_2
def dkwX3_weight_0 : List UInt8 := [42, 3, 181, 0, 41, 42, 182, 0, 107, 27, 4, 16, 64, 184, 0, 70, 154, 0, 9, 42, 4, 182, 0, 67]
abbrev dktX3_weight_0 : List UInt8 := dkwX3_weight_0 ++ dktX3_weight_1
theorem dksX3_weight_0 : cX3_weight.data.toList.drop 0 = dktX3_weight_0 := by decide +kernel
theorem dksX3_weight_1 : cX3_weight.data.toList.drop 24 = dktX3_weight_1 := dk_seg dksX3_weight_0 24 rfl rfl
theorem dksX3_weight_2 : cX3_weight.data.toList.drop 48 = dktX3_weight_2 := dk_seg dksX3_weight_1 24 rfl rfl
theorem dksX3_weight_3 : cX3_weight.data.toList.drop 70 = dktX3_weight_3 := dk_seg dksX3_weight_2 22 rfl rfl
theorem dX3_weight_0 : decode cX3_weight 0 = .ok (.aload_n 0, 1) := dk_42 (dk_at dksX3_weight_0 0 rfl rfl)
theorem dX3_weight_1 : decode cX3_weight 1 = .ok (.iconst 0, 1) := dk_3 (dk_at dksX3_weight_0 1 rfl rfl)
theorem dX3_weight_2 : decode cX3_weight 2 = .ok (.putfield 41, 3) := dk_181 0 41 (dk_at dksX3_weight_0 2 rfl rfl)
theorem dX3_weight_5 : decode cX3_weight 5 = .ok (.aload_n 0, 1) := dk_42 (dk_at dksX3_weight_0 5 rfl rfl)
theorem dX3_weight_6 : decode cX3_weight 6 = .ok (.invokevirtual 107, 3) := dk_182 0 107 (dk_at dksX3_weight_0 6 rfl rfl)
theorem dX3_weight_9 : decode cX3_weight 9 = .ok (.iload_n 1, 1) := dk_27 (dk_at dksX3_weight_0 9 rfl rfl)
theorem dX3_weight_10 : decode cX3_weight 10 = .ok (.iconst 1, 1) := dk_4 (dk_at dksX3_weight_0 10 rfl rfl)
theorem dX3_weight_11 : decode cX3_weight 11 = .ok (.bipush 64, 2) := dk_16 64 (dk_at dksX3_weight_0 11 rfl rfl)
theorem dX3_weight_13 : decode cX3_weight 13 = .ok (.invokestatic 70, 3) := dk_184 0 70 (dk_at dksX3_weight_0 13 rfl rfl)
theorem dX3_weight_16 : decode cX3_weight 16 = .ok (.ifCond .ne 9, 3) := dk_154 0 9 (dk_at dksX3_weight_0 16 rfl rfl)
theorem dX3_weight_19 : decode cX3_weight 19 = .ok (.aload_n 0, 1) := dk_42 (dk_at dksX3_weight_0 19 rfl rfl)
theorem dX3_weight_20 : decode cX3_weight 20 = .ok (.iconst 1, 1) := dk_4 (dk_at dksX3_weight_0 20 rfl rfl)
theorem dX3_weight_21 : decode cX3_weight 21 = .ok (.invokevirtual 67, 3) := dk_182 0 67 (dk_at dksX3_weight_0 21 rfl rfl)
theorem dX3_weight_24 : decode cX3_weight 24 = .ok (.ireturn, 1) := dk_172 (dk_at dksX3_weight_1 0 rfl rfl)
theorem dX3_weight_25 : decode cX3_weight 25 = .ok (.aload_n 0, 1) := dk_42 (dk_at dksX3_weight_1 1 rfl rfl)
theorem dX3_weight_26 : decode cX3_weight 26 = .ok (.getfield 7, 3) := dk_180 0 7 (dk_at dksX3_weight_1 2 rfl rfl)
theorem dX3_weight_29 : decode cX3_weight 29 = .ok (.iconst 2, 1) := dk_5 (dk_at dksX3_weight_1 5 rfl rfl)
theorem dX3_weight_30 : decode cX3_weight 30 = .ok (.iaload, 1) := dk_46 (dk_at dksX3_weight_1 6 rfl rfl)
theorem dX3_weight_31 : decode cX3_weight 31 = .ok (.istore_n 2, 1) := dk_61 (dk_at dksX3_weight_1 7 rfl rfl)
theorem dX3_weight_32 : decode cX3_weight 32 = .ok (.iload_n 2, 1) := dk_28 (dk_at dksX3_weight_1 8 rfl rfl)
theorem dX3_weight_33 : decode cX3_weight 33 = .ok (.iconst 4, 1) := dk_7 (dk_at dksX3_weight_1 9 rfl rfl)
theorem dX3_weight_34 : decode cX3_weight 34 = .ok (.if_icmp .ne 15, 3) := dk_160 0 15 (dk_at dksX3_weight_1 10 rfl rfl)
theorem dX3_weight_37 : decode cX3_weight 37 = .ok (.aload_n 0, 1) := dk_42 (dk_at dksX3_weight_1 13 rfl rfl)
theorem dX3_weight_38 : decode cX3_weight 38 = .ok (.aload_n 0, 1) := dk_42 (dk_at dksX3_weight_1 14 rfl rfl)
theorem dX3_weight_39 : decode cX3_weight 39 = .ok (.iconst 1, 1) := dk_4 (dk_at dksX3_weight_1 15 rfl rfl)
theorem dX3_weight_40 : decode cX3_weight 40 = .ok (.iconst 4, 1) := dk_7 (dk_at dksX3_weight_1 16 rfl rfl)
theorem dX3_weight_41 : decode cX3_weight 41 = .ok (.invokevirtual 95, 3) := dk_182 0 95 (dk_at dksX3_weight_1 17 rfl rfl)
theorem dX3_weight_44 : decode cX3_weight 44 = .ok (.iconst 2, 1) := dk_5 (dk_at dksX3_weight_1 20 rfl rfl)
theorem dX3_weight_45 : decode cX3_weight 45 = .ok (.invokevirtual 113, 3) := dk_182 0 113 (dk_at dksX3_weight_1 21 rfl rfl)
theorem dX3_weight_48 : decode cX3_weight 48 = .ok (.ireturn, 1) := dk_172 (dk_at dksX3_weight_2 0 rfl rfl)
theorem dX3_weight_49 : decode cX3_weight 49 = .ok (.aload_n 0, 1) := dk_42 (dk_at dksX3_weight_2 1 rfl rfl)
theorem dX3_weight_50 : decode cX3_weight 50 = .ok (.getfield 7, 3) := dk_180 0 7 (dk_at dksX3_weight_2 2 rfl rfl)
theorem dX3_weight_53 : decode cX3_weight 53 = .ok (.bipush 105, 2) := dk_16 105 (dk_at dksX3_weight_2 5 rfl rfl)
theorem dX3_weight_55 : decode cX3_weight 55 = .ok (.iload_n 2, 1) := dk_28 (dk_at dksX3_weight_2 7 rfl rfl)
theorem dX3_weight_56 : decode cX3_weight 56 = .ok (.iadd, 1) := dk_96 (dk_at dksX3_weight_2 8 rfl rfl)
theorem dX3_weight_57 : decode cX3_weight 57 = .ok (.iload_n 1, 1) := dk_27 (dk_at dksX3_weight_2 9 rfl rfl)
theorem dX3_weight_58 : decode cX3_weight 58 = .ok (.iastore, 1) := dk_79 (dk_at dksX3_weight_2 10 rfl rfl)
theorem dX3_weight_59 : decode cX3_weight 59 = .ok (.aload_n 0, 1) := dk_42 (dk_at dksX3_weight_2 11 rfl rfl)
theorem dX3_weight_60 : decode cX3_weight 60 = .ok (.getfield 7, 3) := dk_180 0 7 (dk_at dksX3_weight_2 12 rfl rfl)
theorem dX3_weight_63 : decode cX3_weight 63 = .ok (.iconst 2, 1) := dk_5 (dk_at dksX3_weight_2 15 rfl rfl)
theorem dX3_weight_64 : decode cX3_weight 64 = .ok (.iload_n 2, 1) := dk_28 (dk_at dksX3_weight_2 16 rfl rfl)
theorem dX3_weight_65 : decode cX3_weight 65 = .ok (.iconst 1, 1) := dk_4 (dk_at dksX3_weight_2 17 rfl rfl)
theorem dX3_weight_66 : decode cX3_weight 66 = .ok (.iadd, 1) := dk_96 (dk_at dksX3_weight_2 18 rfl rfl)
theorem dX3_weight_67 : decode cX3_weight 67 = .ok (.iastore, 1) := dk_79 (dk_at dksX3_weight_2 19 rfl rfl)
theorem dX3_weight_68 : decode cX3_weight 68 = .ok (.aload_n 0, 1) := dk_42 (dk_at dksX3_weight_2 20 rfl rfl)
theorem dX3_weight_69 : decode cX3_weight 69 = .ok (.iload_n 2, 1) := dk_28 (dk_at dksX3_weight_2 21 rfl rfl)
theorem dX3_weight_70 : decode cX3_weight 70 = .ok (.invokevirtual 59, 3) := dk_182 0 59 (dk_at dksX3_weight_3 0 rfl rfl)
theorem dX3_weight_73 : decode cX3_weight 73 = .ok (.ireturn, 1) := dk_172 (dk_at dksX3_weight_3 3 rfl rfl)
abbrev cX3_polish : ByteArray := prog_20_method_40_code
def yX3_polish : MethodName := ⟨RX3, "polish", "(I)I"⟩
def dkwX3_polish_2 : List UInt8 := [182, 0, 113, 172, 42, 180, 0, 7, 16, 109, 27, 96, 3, 79, 42, 28, 182, 0, 59, 172]
abbrev dktX3_polish_2 : List UInt8 := dkwX3_polish_2 ++ []
def dkwX3_polish_1 : List UInt8 := [180, 0, 7, 16, 109, 27, 96, 46, 61, 28, 154, 0, 16, 42, 42, 16, 10, 27, 182, 0, 95, 5]
abbrev dktX3_polish_1 : List UInt8 := dkwX3_polish_1 ++ dktX3_polish_2
def dkwX3_polish_0 : List UInt8 := [42, 3, 181, 0, 41, 42, 182, 0, 107, 42, 27, 182, 0, 131, 154, 0, 9, 42, 4, 182, 0, 67, 172, 42]
abbrev dktX3_polish_0 : List UInt8 := dkwX3_polish_0 ++ dktX3_polish_1
theorem dksX3_polish_0 : cX3_polish.data.toList.drop 0 = dktX3_polish_0 := by decide +kernel
theorem dksX3_polish_1 : cX3_polish.data.toList.drop 24 = dktX3_polish_1 := dk_seg dksX3_polish_0 24 rfl rfl
theorem dksX3_polish_2 : cX3_polish.data.toList.drop 46 = dktX3_polish_2 := dk_seg dksX3_polish_1 22 rfl rfl
theorem dX3_polish_0 : decode cX3_polish 0 = .ok (.aload_n 0, 1) := dk_42 (dk_at dksX3_polish_0 0 rfl rfl)
theorem dX3_polish_1 : decode cX3_polish 1 = .ok (.iconst 0, 1) := dk_3 (dk_at dksX3_polish_0 1 rfl rfl)
theorem dX3_polish_2 : decode cX3_polish 2 = .ok (.putfield 41, 3) := dk_181 0 41 (dk_at dksX3_polish_0 2 rfl rfl)
theorem dX3_polish_5 : decode cX3_polish 5 = .ok (.aload_n 0, 1) := dk_42 (dk_at dksX3_polish_0 5 rfl rfl)
theorem dX3_polish_6 : decode cX3_polish 6 = .ok (.invokevirtual 107, 3) := dk_182 0 107 (dk_at dksX3_polish_0 6 rfl rfl)
theorem dX3_polish_9 : decode cX3_polish 9 = .ok (.aload_n 0, 1) := dk_42 (dk_at dksX3_polish_0 9 rfl rfl)
theorem dX3_polish_10 : decode cX3_polish 10 = .ok (.iload_n 1, 1) := dk_27 (dk_at dksX3_polish_0 10 rfl rfl)
theorem dX3_polish_11 : decode cX3_polish 11 = .ok (.invokevirtual 131, 3) := dk_182 0 131 (dk_at dksX3_polish_0 11 rfl rfl)
theorem dX3_polish_14 : decode cX3_polish 14 = .ok (.ifCond .ne 9, 3) := dk_154 0 9 (dk_at dksX3_polish_0 14 rfl rfl)
theorem dX3_polish_17 : decode cX3_polish 17 = .ok (.aload_n 0, 1) := dk_42 (dk_at dksX3_polish_0 17 rfl rfl)
theorem dX3_polish_18 : decode cX3_polish 18 = .ok (.iconst 1, 1) := dk_4 (dk_at dksX3_polish_0 18 rfl rfl)
theorem dX3_polish_19 : decode cX3_polish 19 = .ok (.invokevirtual 67, 3) := dk_182 0 67 (dk_at dksX3_polish_0 19 rfl rfl)
theorem dX3_polish_22 : decode cX3_polish 22 = .ok (.ireturn, 1) := dk_172 (dk_at dksX3_polish_0 22 rfl rfl)
theorem dX3_polish_23 : decode cX3_polish 23 = .ok (.aload_n 0, 1) := dk_42 (dk_at dksX3_polish_0 23 rfl rfl)
theorem dX3_polish_24 : decode cX3_polish 24 = .ok (.getfield 7, 3) := dk_180 0 7 (dk_at dksX3_polish_1 0 rfl rfl)
theorem dX3_polish_27 : decode cX3_polish 27 = .ok (.bipush 109, 2) := dk_16 109 (dk_at dksX3_polish_1 3 rfl rfl)
theorem dX3_polish_29 : decode cX3_polish 29 = .ok (.iload_n 1, 1) := dk_27 (dk_at dksX3_polish_1 5 rfl rfl)
theorem dX3_polish_30 : decode cX3_polish 30 = .ok (.iadd, 1) := dk_96 (dk_at dksX3_polish_1 6 rfl rfl)
theorem dX3_polish_31 : decode cX3_polish 31 = .ok (.iaload, 1) := dk_46 (dk_at dksX3_polish_1 7 rfl rfl)
theorem dX3_polish_32 : decode cX3_polish 32 = .ok (.istore_n 2, 1) := dk_61 (dk_at dksX3_polish_1 8 rfl rfl)
theorem dX3_polish_33 : decode cX3_polish 33 = .ok (.iload_n 2, 1) := dk_28 (dk_at dksX3_polish_1 9 rfl rfl)
theorem dX3_polish_34 : decode cX3_polish 34 = .ok (.ifCond .ne 16, 3) := dk_154 0 16 (dk_at dksX3_polish_1 10 rfl rfl)
theorem dX3_polish_37 : decode cX3_polish 37 = .ok (.aload_n 0, 1) := dk_42 (dk_at dksX3_polish_1 13 rfl rfl)
theorem dX3_polish_38 : decode cX3_polish 38 = .ok (.aload_n 0, 1) := dk_42 (dk_at dksX3_polish_1 14 rfl rfl)
theorem dX3_polish_39 : decode cX3_polish 39 = .ok (.bipush 10, 2) := dk_16 10 (dk_at dksX3_polish_1 15 rfl rfl)
theorem dX3_polish_41 : decode cX3_polish 41 = .ok (.iload_n 1, 1) := dk_27 (dk_at dksX3_polish_1 17 rfl rfl)
theorem dX3_polish_42 : decode cX3_polish 42 = .ok (.invokevirtual 95, 3) := dk_182 0 95 (dk_at dksX3_polish_1 18 rfl rfl)
theorem dX3_polish_45 : decode cX3_polish 45 = .ok (.iconst 2, 1) := dk_5 (dk_at dksX3_polish_1 21 rfl rfl)
theorem dX3_polish_46 : decode cX3_polish 46 = .ok (.invokevirtual 113, 3) := dk_182 0 113 (dk_at dksX3_polish_2 0 rfl rfl)
theorem dX3_polish_49 : decode cX3_polish 49 = .ok (.ireturn, 1) := dk_172 (dk_at dksX3_polish_2 3 rfl rfl)
theorem dX3_polish_50 : decode cX3_polish 50 = .ok (.aload_n 0, 1) := dk_42 (dk_at dksX3_polish_2 4 rfl rfl)
theorem dX3_polish_51 : decode cX3_polish 51 = .ok (.getfield 7, 3) := dk_180 0 7 (dk_at dksX3_polish_2 5 rfl rfl)
theorem dX3_polish_54 : decode cX3_polish 54 = .ok (.bipush 109, 2) := dk_16 109 (dk_at dksX3_polish_2 8 rfl rfl)
theorem dX3_polish_56 : decode cX3_polish 56 = .ok (.iload_n 1, 1) := dk_27 (dk_at dksX3_polish_2 10 rfl rfl)
theorem dX3_polish_57 : decode cX3_polish 57 = .ok (.iadd, 1) := dk_96 (dk_at dksX3_polish_2 11 rfl rfl)
theorem dX3_polish_58 : decode cX3_polish 58 = .ok (.iconst 0, 1) := dk_3 (dk_at dksX3_polish_2 12 rfl rfl)
theorem dX3_polish_59 : decode cX3_polish 59 = .ok (.iastore, 1) := dk_79 (dk_at dksX3_polish_2 13 rfl rfl)
theorem dX3_polish_60 : decode cX3_polish 60 = .ok (.aload_n 0, 1) := dk_42 (dk_at dksX3_polish_2 14 rfl rfl)
theorem dX3_polish_61 : decode cX3_polish 61 = .ok (.iload_n 2, 1) := dk_28 (dk_at dksX3_polish_2 15 rfl rfl)
theorem dX3_polish_62 : decode cX3_polish 62 = .ok (.invokevirtual 59, 3) := dk_182 0 59 (dk_at dksX3_polish_2 16 rfl rfl)
theorem dX3_polish_65 : decode cX3_polish 65 = .ok (.ireturn, 1) := dk_172 (dk_at dksX3_polish_2 19 rfl rfl)
abbrev cX3_isWeight : ByteArray := prog_20_method_12_code
def yX3_isWeight : MethodName := ⟨RX3, "isWeight", "(I)Z"⟩
def dkwX3_isWeight_0 : List UInt8 := [27, 3, 42, 180, 0, 7, 5, 46, 4, 100, 184, 0, 70, 172]
abbrev dktX3_isWeight_0 : List UInt8 := dkwX3_isWeight_0 ++ []
theorem dksX3_isWeight_0 : cX3_isWeight.data.toList.drop 0 = dktX3_isWeight_0 := by decide +kernel
theorem dX3_isWeight_0 : decode cX3_isWeight 0 = .ok (.iload_n 1, 1) := dk_27 (dk_at dksX3_isWeight_0 0 rfl rfl)
theorem dX3_isWeight_1 : decode cX3_isWeight 1 = .ok (.iconst 0, 1) := dk_3 (dk_at dksX3_isWeight_0 1 rfl rfl)
theorem dX3_isWeight_2 : decode cX3_isWeight 2 = .ok (.aload_n 0, 1) := dk_42 (dk_at dksX3_isWeight_0 2 rfl rfl)
theorem dX3_isWeight_3 : decode cX3_isWeight 3 = .ok (.getfield 7, 3) := dk_180 0 7 (dk_at dksX3_isWeight_0 3 rfl rfl)
theorem dX3_isWeight_6 : decode cX3_isWeight 6 = .ok (.iconst 2, 1) := dk_5 (dk_at dksX3_isWeight_0 6 rfl rfl)
theorem dX3_isWeight_7 : decode cX3_isWeight 7 = .ok (.iaload, 1) := dk_46 (dk_at dksX3_isWeight_0 7 rfl rfl)
theorem dX3_isWeight_8 : decode cX3_isWeight 8 = .ok (.iconst 1, 1) := dk_4 (dk_at dksX3_isWeight_0 8 rfl rfl)
theorem dX3_isWeight_9 : decode cX3_isWeight 9 = .ok (.isub, 1) := dk_100 (dk_at dksX3_isWeight_0 9 rfl rfl)
theorem dX3_isWeight_10 : decode cX3_isWeight 10 = .ok (.invokestatic 70, 3) := dk_184 0 70 (dk_at dksX3_isWeight_0 10 rfl rfl)
theorem dX3_isWeight_13 : decode cX3_isWeight 13 = .ok (.ireturn, 1) := dk_172 (dk_at dksX3_isWeight_0 13 rfl rfl)
abbrev cX3_weightOf : ByteArray := prog_20_method_41_code
def yX3_weightOf : MethodName := ⟨RX3, "weightOf", "(II)I"⟩
def dkwX3_weightOf_2 : List UInt8 := [182, 0, 67, 172]
abbrev dktX3_weightOf_2 : List UInt8 := dkwX3_weightOf_2 ++ []
def dkwX3_weightOf_1 : List UInt8 := [184, 0, 70, 153, 0, 19, 42, 180, 0, 7, 16, 105, 7, 28, 104, 96, 27, 96, 46, 167, 0, 8, 42, 5]
abbrev dktX3_weightOf_1 : List UInt8 := dkwX3_weightOf_1 ++ dktX3_weightOf_2
def dkwX3_weightOf_0 : List UInt8 := [42, 3, 181, 0, 41, 42, 27, 182, 0, 131, 154, 0, 9, 42, 4, 182, 0, 67, 172, 28, 3, 5]
abbrev dktX3_weightOf_0 : List UInt8 := dkwX3_weightOf_0 ++ dktX3_weightOf_1
theorem dksX3_weightOf_0 : cX3_weightOf.data.toList.drop 0 = dktX3_weightOf_0 := by decide +kernel
theorem dksX3_weightOf_1 : cX3_weightOf.data.toList.drop 22 = dktX3_weightOf_1 := dk_seg dksX3_weightOf_0 22 rfl rfl
theorem dksX3_weightOf_2 : cX3_weightOf.data.toList.drop 46 = dktX3_weightOf_2 := dk_seg dksX3_weightOf_1 24 rfl rfl
theorem dX3_weightOf_0 : decode cX3_weightOf 0 = .ok (.aload_n 0, 1) := dk_42 (dk_at dksX3_weightOf_0 0 rfl rfl)
theorem dX3_weightOf_1 : decode cX3_weightOf 1 = .ok (.iconst 0, 1) := dk_3 (dk_at dksX3_weightOf_0 1 rfl rfl)
theorem dX3_weightOf_2 : decode cX3_weightOf 2 = .ok (.putfield 41, 3) := dk_181 0 41 (dk_at dksX3_weightOf_0 2 rfl rfl)
theorem dX3_weightOf_5 : decode cX3_weightOf 5 = .ok (.aload_n 0, 1) := dk_42 (dk_at dksX3_weightOf_0 5 rfl rfl)
theorem dX3_weightOf_6 : decode cX3_weightOf 6 = .ok (.iload_n 1, 1) := dk_27 (dk_at dksX3_weightOf_0 6 rfl rfl)
theorem dX3_weightOf_7 : decode cX3_weightOf 7 = .ok (.invokevirtual 131, 3) := dk_182 0 131 (dk_at dksX3_weightOf_0 7 rfl rfl)
theorem dX3_weightOf_10 : decode cX3_weightOf 10 = .ok (.ifCond .ne 9, 3) := dk_154 0 9 (dk_at dksX3_weightOf_0 10 rfl rfl)
theorem dX3_weightOf_13 : decode cX3_weightOf 13 = .ok (.aload_n 0, 1) := dk_42 (dk_at dksX3_weightOf_0 13 rfl rfl)
theorem dX3_weightOf_14 : decode cX3_weightOf 14 = .ok (.iconst 1, 1) := dk_4 (dk_at dksX3_weightOf_0 14 rfl rfl)
theorem dX3_weightOf_15 : decode cX3_weightOf 15 = .ok (.invokevirtual 67, 3) := dk_182 0 67 (dk_at dksX3_weightOf_0 15 rfl rfl)
theorem dX3_weightOf_18 : decode cX3_weightOf 18 = .ok (.ireturn, 1) := dk_172 (dk_at dksX3_weightOf_0 18 rfl rfl)
theorem dX3_weightOf_19 : decode cX3_weightOf 19 = .ok (.iload_n 2, 1) := dk_28 (dk_at dksX3_weightOf_0 19 rfl rfl)
theorem dX3_weightOf_20 : decode cX3_weightOf 20 = .ok (.iconst 0, 1) := dk_3 (dk_at dksX3_weightOf_0 20 rfl rfl)
theorem dX3_weightOf_21 : decode cX3_weightOf 21 = .ok (.iconst 2, 1) := dk_5 (dk_at dksX3_weightOf_0 21 rfl rfl)
theorem dX3_weightOf_22 : decode cX3_weightOf 22 = .ok (.invokestatic 70, 3) := dk_184 0 70 (dk_at dksX3_weightOf_1 0 rfl rfl)
theorem dX3_weightOf_25 : decode cX3_weightOf 25 = .ok (.ifCond .eq 19, 3) := dk_153 0 19 (dk_at dksX3_weightOf_1 3 rfl rfl)
theorem dX3_weightOf_28 : decode cX3_weightOf 28 = .ok (.aload_n 0, 1) := dk_42 (dk_at dksX3_weightOf_1 6 rfl rfl)
theorem dX3_weightOf_29 : decode cX3_weightOf 29 = .ok (.getfield 7, 3) := dk_180 0 7 (dk_at dksX3_weightOf_1 7 rfl rfl)
theorem dX3_weightOf_32 : decode cX3_weightOf 32 = .ok (.bipush 105, 2) := dk_16 105 (dk_at dksX3_weightOf_1 10 rfl rfl)
theorem dX3_weightOf_34 : decode cX3_weightOf 34 = .ok (.iconst 4, 1) := dk_7 (dk_at dksX3_weightOf_1 12 rfl rfl)
theorem dX3_weightOf_35 : decode cX3_weightOf 35 = .ok (.iload_n 2, 1) := dk_28 (dk_at dksX3_weightOf_1 13 rfl rfl)
theorem dX3_weightOf_36 : decode cX3_weightOf 36 = .ok (.imul, 1) := dk_104 (dk_at dksX3_weightOf_1 14 rfl rfl)
theorem dX3_weightOf_37 : decode cX3_weightOf 37 = .ok (.iadd, 1) := dk_96 (dk_at dksX3_weightOf_1 15 rfl rfl)
theorem dX3_weightOf_38 : decode cX3_weightOf 38 = .ok (.iload_n 1, 1) := dk_27 (dk_at dksX3_weightOf_1 16 rfl rfl)
theorem dX3_weightOf_39 : decode cX3_weightOf 39 = .ok (.iadd, 1) := dk_96 (dk_at dksX3_weightOf_1 17 rfl rfl)
theorem dX3_weightOf_40 : decode cX3_weightOf 40 = .ok (.iaload, 1) := dk_46 (dk_at dksX3_weightOf_1 18 rfl rfl)
theorem dX3_weightOf_41 : decode cX3_weightOf 41 = .ok (.goto 8, 3) := dk_167 0 8 (dk_at dksX3_weightOf_1 19 rfl rfl)
theorem dX3_weightOf_44 : decode cX3_weightOf 44 = .ok (.aload_n 0, 1) := dk_42 (dk_at dksX3_weightOf_1 22 rfl rfl)
theorem dX3_weightOf_45 : decode cX3_weightOf 45 = .ok (.iconst 2, 1) := dk_5 (dk_at dksX3_weightOf_1 23 rfl rfl)
theorem dX3_weightOf_46 : decode cX3_weightOf 46 = .ok (.invokevirtual 67, 3) := dk_182 0 67 (dk_at dksX3_weightOf_2 0 rfl rfl)
theorem dX3_weightOf_49 : decode cX3_weightOf 49 = .ok (.ireturn, 1) := dk_172 (dk_at dksX3_weightOf_2 3 rfl rfl)
abbrev cX3_bestWeight : ByteArray := prog_20_method_42_code
def yX3_bestWeight : MethodName := ⟨RX3, "bestWeight", "()I"⟩
def dkwX3_bestWeight_4 : List UInt8 := [164, 0, 5, 28, 60, 132, 2, 1, 167, 255, 178, 27, 172]
abbrev dktX3_bestWeight_4 : List UInt8 := dkwX3_bestWeight_4 ++ []
def dkwX3_bestWeight_3 : List UInt8 := [96, 46, 160, 0, 26, 42, 180, 0, 7, 16, 105, 28, 96, 46, 42, 180, 0, 7, 16, 105, 27, 96, 46]
abbrev dktX3_bestWeight_3 : List UInt8 := dkwX3_bestWeight_3 ++ dktX3_bestWeight_4
def dkwX3_bestWeight_2 : List UInt8 := [16, 109, 27, 96, 46, 161, 0, 45, 42, 180, 0, 7, 16, 109, 28, 96, 46, 42, 180, 0, 7, 16, 109, 27]
abbrev dktX3_bestWeight_2 : List UInt8 := dkwX3_bestWeight_2 ++ dktX3_bestWeight_3
def dkwX3_bestWeight_1 : List UInt8 := [28, 42, 180, 0, 7, 5, 46, 162, 0, 74, 42, 180, 0, 7, 16, 109, 28, 96, 46, 42, 180, 0, 7]
abbrev dktX3_bestWeight_1 : List UInt8 := dkwX3_bestWeight_1 ++ dktX3_bestWeight_2
def dkwX3_bestWeight_0 : List UInt8 := [42, 3, 181, 0, 41, 42, 180, 0, 7, 5, 46, 154, 0, 9, 42, 4, 182, 0, 67, 172, 3, 60, 4, 61]
abbrev dktX3_bestWeight_0 : List UInt8 := dkwX3_bestWeight_0 ++ dktX3_bestWeight_1
theorem dksX3_bestWeight_0 : cX3_bestWeight.data.toList.drop 0 = dktX3_bestWeight_0 := by decide +kernel
theorem dksX3_bestWeight_1 : cX3_bestWeight.data.toList.drop 24 = dktX3_bestWeight_1 := dk_seg dksX3_bestWeight_0 24 rfl rfl
theorem dksX3_bestWeight_2 : cX3_bestWeight.data.toList.drop 47 = dktX3_bestWeight_2 := dk_seg dksX3_bestWeight_1 23 rfl rfl
theorem dksX3_bestWeight_3 : cX3_bestWeight.data.toList.drop 71 = dktX3_bestWeight_3 := dk_seg dksX3_bestWeight_2 24 rfl rfl
theorem dksX3_bestWeight_4 : cX3_bestWeight.data.toList.drop 94 = dktX3_bestWeight_4 := dk_seg dksX3_bestWeight_3 23 rfl rfl
theorem dX3_bestWeight_0 : decode cX3_bestWeight 0 = .ok (.aload_n 0, 1) := dk_42 (dk_at dksX3_bestWeight_0 0 rfl rfl)
theorem dX3_bestWeight_1 : decode cX3_bestWeight 1 = .ok (.iconst 0, 1) := dk_3 (dk_at dksX3_bestWeight_0 1 rfl rfl)
theorem dX3_bestWeight_2 : decode cX3_bestWeight 2 = .ok (.putfield 41, 3) := dk_181 0 41 (dk_at dksX3_bestWeight_0 2 rfl rfl)
theorem dX3_bestWeight_5 : decode cX3_bestWeight 5 = .ok (.aload_n 0, 1) := dk_42 (dk_at dksX3_bestWeight_0 5 rfl rfl)
theorem dX3_bestWeight_6 : decode cX3_bestWeight 6 = .ok (.getfield 7, 3) := dk_180 0 7 (dk_at dksX3_bestWeight_0 6 rfl rfl)
theorem dX3_bestWeight_9 : decode cX3_bestWeight 9 = .ok (.iconst 2, 1) := dk_5 (dk_at dksX3_bestWeight_0 9 rfl rfl)
theorem dX3_bestWeight_10 : decode cX3_bestWeight 10 = .ok (.iaload, 1) := dk_46 (dk_at dksX3_bestWeight_0 10 rfl rfl)
theorem dX3_bestWeight_11 : decode cX3_bestWeight 11 = .ok (.ifCond .ne 9, 3) := dk_154 0 9 (dk_at dksX3_bestWeight_0 11 rfl rfl)
theorem dX3_bestWeight_14 : decode cX3_bestWeight 14 = .ok (.aload_n 0, 1) := dk_42 (dk_at dksX3_bestWeight_0 14 rfl rfl)
theorem dX3_bestWeight_15 : decode cX3_bestWeight 15 = .ok (.iconst 1, 1) := dk_4 (dk_at dksX3_bestWeight_0 15 rfl rfl)
theorem dX3_bestWeight_16 : decode cX3_bestWeight 16 = .ok (.invokevirtual 67, 3) := dk_182 0 67 (dk_at dksX3_bestWeight_0 16 rfl rfl)
theorem dX3_bestWeight_19 : decode cX3_bestWeight 19 = .ok (.ireturn, 1) := dk_172 (dk_at dksX3_bestWeight_0 19 rfl rfl)
theorem dX3_bestWeight_20 : decode cX3_bestWeight 20 = .ok (.iconst 0, 1) := dk_3 (dk_at dksX3_bestWeight_0 20 rfl rfl)
theorem dX3_bestWeight_21 : decode cX3_bestWeight 21 = .ok (.istore_n 1, 1) := dk_60 (dk_at dksX3_bestWeight_0 21 rfl rfl)
theorem dX3_bestWeight_22 : decode cX3_bestWeight 22 = .ok (.iconst 1, 1) := dk_4 (dk_at dksX3_bestWeight_0 22 rfl rfl)
theorem dX3_bestWeight_23 : decode cX3_bestWeight 23 = .ok (.istore_n 2, 1) := dk_61 (dk_at dksX3_bestWeight_0 23 rfl rfl)
theorem dX3_bestWeight_24 : decode cX3_bestWeight 24 = .ok (.iload_n 2, 1) := dk_28 (dk_at dksX3_bestWeight_1 0 rfl rfl)
theorem dX3_bestWeight_25 : decode cX3_bestWeight 25 = .ok (.aload_n 0, 1) := dk_42 (dk_at dksX3_bestWeight_1 1 rfl rfl)
theorem dX3_bestWeight_26 : decode cX3_bestWeight 26 = .ok (.getfield 7, 3) := dk_180 0 7 (dk_at dksX3_bestWeight_1 2 rfl rfl)
theorem dX3_bestWeight_29 : decode cX3_bestWeight 29 = .ok (.iconst 2, 1) := dk_5 (dk_at dksX3_bestWeight_1 5 rfl rfl)
theorem dX3_bestWeight_30 : decode cX3_bestWeight 30 = .ok (.iaload, 1) := dk_46 (dk_at dksX3_bestWeight_1 6 rfl rfl)
theorem dX3_bestWeight_31 : decode cX3_bestWeight 31 = .ok (.if_icmp .ge 74, 3) := dk_162 0 74 (dk_at dksX3_bestWeight_1 7 rfl rfl)
theorem dX3_bestWeight_34 : decode cX3_bestWeight 34 = .ok (.aload_n 0, 1) := dk_42 (dk_at dksX3_bestWeight_1 10 rfl rfl)
theorem dX3_bestWeight_35 : decode cX3_bestWeight 35 = .ok (.getfield 7, 3) := dk_180 0 7 (dk_at dksX3_bestWeight_1 11 rfl rfl)
theorem dX3_bestWeight_38 : decode cX3_bestWeight 38 = .ok (.bipush 109, 2) := dk_16 109 (dk_at dksX3_bestWeight_1 14 rfl rfl)
theorem dX3_bestWeight_40 : decode cX3_bestWeight 40 = .ok (.iload_n 2, 1) := dk_28 (dk_at dksX3_bestWeight_1 16 rfl rfl)
theorem dX3_bestWeight_41 : decode cX3_bestWeight 41 = .ok (.iadd, 1) := dk_96 (dk_at dksX3_bestWeight_1 17 rfl rfl)
theorem dX3_bestWeight_42 : decode cX3_bestWeight 42 = .ok (.iaload, 1) := dk_46 (dk_at dksX3_bestWeight_1 18 rfl rfl)
theorem dX3_bestWeight_43 : decode cX3_bestWeight 43 = .ok (.aload_n 0, 1) := dk_42 (dk_at dksX3_bestWeight_1 19 rfl rfl)
theorem dX3_bestWeight_44 : decode cX3_bestWeight 44 = .ok (.getfield 7, 3) := dk_180 0 7 (dk_at dksX3_bestWeight_1 20 rfl rfl)
theorem dX3_bestWeight_47 : decode cX3_bestWeight 47 = .ok (.bipush 109, 2) := dk_16 109 (dk_at dksX3_bestWeight_2 0 rfl rfl)
theorem dX3_bestWeight_49 : decode cX3_bestWeight 49 = .ok (.iload_n 1, 1) := dk_27 (dk_at dksX3_bestWeight_2 2 rfl rfl)
theorem dX3_bestWeight_50 : decode cX3_bestWeight 50 = .ok (.iadd, 1) := dk_96 (dk_at dksX3_bestWeight_2 3 rfl rfl)
theorem dX3_bestWeight_51 : decode cX3_bestWeight 51 = .ok (.iaload, 1) := dk_46 (dk_at dksX3_bestWeight_2 4 rfl rfl)
theorem dX3_bestWeight_52 : decode cX3_bestWeight 52 = .ok (.if_icmp .lt 45, 3) := dk_161 0 45 (dk_at dksX3_bestWeight_2 5 rfl rfl)
theorem dX3_bestWeight_55 : decode cX3_bestWeight 55 = .ok (.aload_n 0, 1) := dk_42 (dk_at dksX3_bestWeight_2 8 rfl rfl)
theorem dX3_bestWeight_56 : decode cX3_bestWeight 56 = .ok (.getfield 7, 3) := dk_180 0 7 (dk_at dksX3_bestWeight_2 9 rfl rfl)
theorem dX3_bestWeight_59 : decode cX3_bestWeight 59 = .ok (.bipush 109, 2) := dk_16 109 (dk_at dksX3_bestWeight_2 12 rfl rfl)
theorem dX3_bestWeight_61 : decode cX3_bestWeight 61 = .ok (.iload_n 2, 1) := dk_28 (dk_at dksX3_bestWeight_2 14 rfl rfl)
theorem dX3_bestWeight_62 : decode cX3_bestWeight 62 = .ok (.iadd, 1) := dk_96 (dk_at dksX3_bestWeight_2 15 rfl rfl)
theorem dX3_bestWeight_63 : decode cX3_bestWeight 63 = .ok (.iaload, 1) := dk_46 (dk_at dksX3_bestWeight_2 16 rfl rfl)
theorem dX3_bestWeight_64 : decode cX3_bestWeight 64 = .ok (.aload_n 0, 1) := dk_42 (dk_at dksX3_bestWeight_2 17 rfl rfl)
theorem dX3_bestWeight_65 : decode cX3_bestWeight 65 = .ok (.getfield 7, 3) := dk_180 0 7 (dk_at dksX3_bestWeight_2 18 rfl rfl)
theorem dX3_bestWeight_68 : decode cX3_bestWeight 68 = .ok (.bipush 109, 2) := dk_16 109 (dk_at dksX3_bestWeight_2 21 rfl rfl)
theorem dX3_bestWeight_70 : decode cX3_bestWeight 70 = .ok (.iload_n 1, 1) := dk_27 (dk_at dksX3_bestWeight_2 23 rfl rfl)
theorem dX3_bestWeight_71 : decode cX3_bestWeight 71 = .ok (.iadd, 1) := dk_96 (dk_at dksX3_bestWeight_3 0 rfl rfl)
theorem dX3_bestWeight_72 : decode cX3_bestWeight 72 = .ok (.iaload, 1) := dk_46 (dk_at dksX3_bestWeight_3 1 rfl rfl)
theorem dX3_bestWeight_73 : decode cX3_bestWeight 73 = .ok (.if_icmp .ne 26, 3) := dk_160 0 26 (dk_at dksX3_bestWeight_3 2 rfl rfl)
theorem dX3_bestWeight_76 : decode cX3_bestWeight 76 = .ok (.aload_n 0, 1) := dk_42 (dk_at dksX3_bestWeight_3 5 rfl rfl)
theorem dX3_bestWeight_77 : decode cX3_bestWeight 77 = .ok (.getfield 7, 3) := dk_180 0 7 (dk_at dksX3_bestWeight_3 6 rfl rfl)
theorem dX3_bestWeight_80 : decode cX3_bestWeight 80 = .ok (.bipush 105, 2) := dk_16 105 (dk_at dksX3_bestWeight_3 9 rfl rfl)
theorem dX3_bestWeight_82 : decode cX3_bestWeight 82 = .ok (.iload_n 2, 1) := dk_28 (dk_at dksX3_bestWeight_3 11 rfl rfl)
theorem dX3_bestWeight_83 : decode cX3_bestWeight 83 = .ok (.iadd, 1) := dk_96 (dk_at dksX3_bestWeight_3 12 rfl rfl)
theorem dX3_bestWeight_84 : decode cX3_bestWeight 84 = .ok (.iaload, 1) := dk_46 (dk_at dksX3_bestWeight_3 13 rfl rfl)
theorem dX3_bestWeight_85 : decode cX3_bestWeight 85 = .ok (.aload_n 0, 1) := dk_42 (dk_at dksX3_bestWeight_3 14 rfl rfl)
theorem dX3_bestWeight_86 : decode cX3_bestWeight 86 = .ok (.getfield 7, 3) := dk_180 0 7 (dk_at dksX3_bestWeight_3 15 rfl rfl)
theorem dX3_bestWeight_89 : decode cX3_bestWeight 89 = .ok (.bipush 105, 2) := dk_16 105 (dk_at dksX3_bestWeight_3 18 rfl rfl)
theorem dX3_bestWeight_91 : decode cX3_bestWeight 91 = .ok (.iload_n 1, 1) := dk_27 (dk_at dksX3_bestWeight_3 20 rfl rfl)
theorem dX3_bestWeight_92 : decode cX3_bestWeight 92 = .ok (.iadd, 1) := dk_96 (dk_at dksX3_bestWeight_3 21 rfl rfl)
theorem dX3_bestWeight_93 : decode cX3_bestWeight 93 = .ok (.iaload, 1) := dk_46 (dk_at dksX3_bestWeight_3 22 rfl rfl)
theorem dX3_bestWeight_94 : decode cX3_bestWeight 94 = .ok (.if_icmp .le 5, 3) := dk_164 0 5 (dk_at dksX3_bestWeight_4 0 rfl rfl)
theorem dX3_bestWeight_97 : decode cX3_bestWeight 97 = .ok (.iload_n 2, 1) := dk_28 (dk_at dksX3_bestWeight_4 3 rfl rfl)
theorem dX3_bestWeight_98 : decode cX3_bestWeight 98 = .ok (.istore_n 1, 1) := dk_60 (dk_at dksX3_bestWeight_4 4 rfl rfl)
theorem dX3_bestWeight_99 : decode cX3_bestWeight 99 = .ok (.iinc 2 1, 3) := dk_132 2 1 (dk_at dksX3_bestWeight_4 5 rfl rfl)
theorem dX3_bestWeight_102 : decode cX3_bestWeight 102 = .ok (.goto (-78), 3) := dk_167 255 178 (dk_at dksX3_bestWeight_4 8 rfl rfl)
theorem dX3_bestWeight_105 : decode cX3_bestWeight 105 = .ok (.iload_n 1, 1) := dk_27 (dk_at dksX3_bestWeight_4 11 rfl rfl)
theorem dX3_bestWeight_106 : decode cX3_bestWeight 106 = .ok (.ireturn, 1) := dk_172 (dk_at dksX3_bestWeight_4 12 rfl rfl)
abbrev cX3_shows : ByteArray := prog_20_method_43_code
def yX3_shows : MethodName := ⟨RX3, "shows", "(II)I"⟩
def dkwX3_shows_1 : List UInt8 := [182, 0, 92, 167, 0, 8, 42, 4, 182, 0, 67, 172]
abbrev dktX3_shows_1 : List UInt8 := dkwX3_shows_1 ++ []
def dkwX3_shows_0 : List UInt8 := [42, 3, 181, 0, 41, 42, 27, 182, 0, 116, 153, 0, 20, 42, 28, 182, 0, 131, 153, 0, 12, 42, 27, 28]
abbrev dktX3_shows_0 : List UInt8 := dkwX3_shows_0 ++ dktX3_shows_1
theorem dksX3_shows_0 : cX3_shows.data.toList.drop 0 = dktX3_shows_0 := by decide +kernel
theorem dksX3_shows_1 : cX3_shows.data.toList.drop 24 = dktX3_shows_1 := dk_seg dksX3_shows_0 24 rfl rfl
theorem dX3_shows_0 : decode cX3_shows 0 = .ok (.aload_n 0, 1) := dk_42 (dk_at dksX3_shows_0 0 rfl rfl)
theorem dX3_shows_1 : decode cX3_shows 1 = .ok (.iconst 0, 1) := dk_3 (dk_at dksX3_shows_0 1 rfl rfl)
theorem dX3_shows_2 : decode cX3_shows 2 = .ok (.putfield 41, 3) := dk_181 0 41 (dk_at dksX3_shows_0 2 rfl rfl)
theorem dX3_shows_5 : decode cX3_shows 5 = .ok (.aload_n 0, 1) := dk_42 (dk_at dksX3_shows_0 5 rfl rfl)
theorem dX3_shows_6 : decode cX3_shows 6 = .ok (.iload_n 1, 1) := dk_27 (dk_at dksX3_shows_0 6 rfl rfl)
theorem dX3_shows_7 : decode cX3_shows 7 = .ok (.invokevirtual 116, 3) := dk_182 0 116 (dk_at dksX3_shows_0 7 rfl rfl)
theorem dX3_shows_10 : decode cX3_shows 10 = .ok (.ifCond .eq 20, 3) := dk_153 0 20 (dk_at dksX3_shows_0 10 rfl rfl)
theorem dX3_shows_13 : decode cX3_shows 13 = .ok (.aload_n 0, 1) := dk_42 (dk_at dksX3_shows_0 13 rfl rfl)
theorem dX3_shows_14 : decode cX3_shows 14 = .ok (.iload_n 2, 1) := dk_28 (dk_at dksX3_shows_0 14 rfl rfl)
theorem dX3_shows_15 : decode cX3_shows 15 = .ok (.invokevirtual 131, 3) := dk_182 0 131 (dk_at dksX3_shows_0 15 rfl rfl)
theorem dX3_shows_18 : decode cX3_shows 18 = .ok (.ifCond .eq 12, 3) := dk_153 0 12 (dk_at dksX3_shows_0 18 rfl rfl)
theorem dX3_shows_21 : decode cX3_shows 21 = .ok (.aload_n 0, 1) := dk_42 (dk_at dksX3_shows_0 21 rfl rfl)
theorem dX3_shows_22 : decode cX3_shows 22 = .ok (.iload_n 1, 1) := dk_27 (dk_at dksX3_shows_0 22 rfl rfl)
theorem dX3_shows_23 : decode cX3_shows 23 = .ok (.iload_n 2, 1) := dk_28 (dk_at dksX3_shows_0 23 rfl rfl)
theorem dX3_shows_24 : decode cX3_shows 24 = .ok (.invokevirtual 92, 3) := dk_182 0 92 (dk_at dksX3_shows_1 0 rfl rfl)
theorem dX3_shows_27 : decode cX3_shows 27 = .ok (.goto 8, 3) := dk_167 0 8 (dk_at dksX3_shows_1 3 rfl rfl)
theorem dX3_shows_30 : decode cX3_shows 30 = .ok (.aload_n 0, 1) := dk_42 (dk_at dksX3_shows_1 6 rfl rfl)
theorem dX3_shows_31 : decode cX3_shows 31 = .ok (.iconst 1, 1) := dk_4 (dk_at dksX3_shows_1 7 rfl rfl)
theorem dX3_shows_32 : decode cX3_shows 32 = .ok (.invokevirtual 67, 3) := dk_182 0 67 (dk_at dksX3_shows_1 8 rfl rfl)
theorem dX3_shows_35 : decode cX3_shows 35 = .ok (.ireturn, 1) := dk_172 (dk_at dksX3_shows_1 11 rfl rfl)
abbrev cX3_showsBy : ByteArray := prog_20_method_20_code
def yX3_showsBy : MethodName := ⟨RX3, "showsBy", "(II)I"⟩
def dkwX3_showsBy_0 : List UInt8 := [42, 180, 0, 7, 16, 45, 27, 96, 46, 42, 180, 0, 7, 16, 109, 28, 96, 46, 100, 172]
abbrev dktX3_showsBy_0 : List UInt8 := dkwX3_showsBy_0 ++ []
theorem dksX3_showsBy_0 : cX3_showsBy.data.toList.drop 0 = dktX3_showsBy_0 := by decide +kernel
theorem dX3_showsBy_0 : decode cX3_showsBy 0 = .ok (.aload_n 0, 1) := dk_42 (dk_at dksX3_showsBy_0 0 rfl rfl)
theorem dX3_showsBy_1 : decode cX3_showsBy 1 = .ok (.getfield 7, 3) := dk_180 0 7 (dk_at dksX3_showsBy_0 1 rfl rfl)
theorem dX3_showsBy_4 : decode cX3_showsBy 4 = .ok (.bipush 45, 2) := dk_16 45 (dk_at dksX3_showsBy_0 4 rfl rfl)
theorem dX3_showsBy_6 : decode cX3_showsBy 6 = .ok (.iload_n 1, 1) := dk_27 (dk_at dksX3_showsBy_0 6 rfl rfl)
theorem dX3_showsBy_7 : decode cX3_showsBy 7 = .ok (.iadd, 1) := dk_96 (dk_at dksX3_showsBy_0 7 rfl rfl)
theorem dX3_showsBy_8 : decode cX3_showsBy 8 = .ok (.iaload, 1) := dk_46 (dk_at dksX3_showsBy_0 8 rfl rfl)
theorem dX3_showsBy_9 : decode cX3_showsBy 9 = .ok (.aload_n 0, 1) := dk_42 (dk_at dksX3_showsBy_0 9 rfl rfl)
theorem dX3_showsBy_10 : decode cX3_showsBy 10 = .ok (.getfield 7, 3) := dk_180 0 7 (dk_at dksX3_showsBy_0 10 rfl rfl)
theorem dX3_showsBy_13 : decode cX3_showsBy 13 = .ok (.bipush 109, 2) := dk_16 109 (dk_at dksX3_showsBy_0 13 rfl rfl)
theorem dX3_showsBy_15 : decode cX3_showsBy 15 = .ok (.iload_n 2, 1) := dk_28 (dk_at dksX3_showsBy_0 15 rfl rfl)
theorem dX3_showsBy_16 : decode cX3_showsBy 16 = .ok (.iadd, 1) := dk_96 (dk_at dksX3_showsBy_0 16 rfl rfl)
theorem dX3_showsBy_17 : decode cX3_showsBy 17 = .ok (.iaload, 1) := dk_46 (dk_at dksX3_showsBy_0 17 rfl rfl)
theorem dX3_showsBy_18 : decode cX3_showsBy 18 = .ok (.isub, 1) := dk_100 (dk_at dksX3_showsBy_0 18 rfl rfl)
theorem dX3_showsBy_19 : decode cX3_showsBy 19 = .ok (.ireturn, 1) := dk_172 (dk_at dksX3_showsBy_0 19 rfl rfl)
abbrev cX3_inspect : ByteArray := prog_20_method_44_code
def yX3_inspect : MethodName := ⟨RX3, "inspect", "(II)I"⟩
def dkwX3_inspect_1 : List UInt8 := [153, 0, 17, 42, 42, 27, 28, 182, 0, 134, 5, 182, 0, 113, 167, 0, 8, 42, 4, 182, 0, 67, 172]
abbrev dktX3_inspect_1 : List UInt8 := dkwX3_inspect_1 ++ []
def dkwX3_inspect_0 : List UInt8 := [42, 3, 181, 0, 41, 42, 182, 0, 107, 42, 27, 182, 0, 116, 153, 0, 25, 42, 28, 182, 0, 131]
abbrev dktX3_inspect_0 : List UInt8 := dkwX3_inspect_0 ++ dktX3_inspect_1
theorem dksX3_inspect_0 : cX3_inspect.data.toList.drop 0 = dktX3_inspect_0 := by decide +kernel
theorem dksX3_inspect_1 : cX3_inspect.data.toList.drop 22 = dktX3_inspect_1 := dk_seg dksX3_inspect_0 22 rfl rfl
theorem dX3_inspect_0 : decode cX3_inspect 0 = .ok (.aload_n 0, 1) := dk_42 (dk_at dksX3_inspect_0 0 rfl rfl)
theorem dX3_inspect_1 : decode cX3_inspect 1 = .ok (.iconst 0, 1) := dk_3 (dk_at dksX3_inspect_0 1 rfl rfl)
theorem dX3_inspect_2 : decode cX3_inspect 2 = .ok (.putfield 41, 3) := dk_181 0 41 (dk_at dksX3_inspect_0 2 rfl rfl)
theorem dX3_inspect_5 : decode cX3_inspect 5 = .ok (.aload_n 0, 1) := dk_42 (dk_at dksX3_inspect_0 5 rfl rfl)
theorem dX3_inspect_6 : decode cX3_inspect 6 = .ok (.invokevirtual 107, 3) := dk_182 0 107 (dk_at dksX3_inspect_0 6 rfl rfl)
theorem dX3_inspect_9 : decode cX3_inspect 9 = .ok (.aload_n 0, 1) := dk_42 (dk_at dksX3_inspect_0 9 rfl rfl)
theorem dX3_inspect_10 : decode cX3_inspect 10 = .ok (.iload_n 1, 1) := dk_27 (dk_at dksX3_inspect_0 10 rfl rfl)
theorem dX3_inspect_11 : decode cX3_inspect 11 = .ok (.invokevirtual 116, 3) := dk_182 0 116 (dk_at dksX3_inspect_0 11 rfl rfl)
theorem dX3_inspect_14 : decode cX3_inspect 14 = .ok (.ifCond .eq 25, 3) := dk_153 0 25 (dk_at dksX3_inspect_0 14 rfl rfl)
theorem dX3_inspect_17 : decode cX3_inspect 17 = .ok (.aload_n 0, 1) := dk_42 (dk_at dksX3_inspect_0 17 rfl rfl)
theorem dX3_inspect_18 : decode cX3_inspect 18 = .ok (.iload_n 2, 1) := dk_28 (dk_at dksX3_inspect_0 18 rfl rfl)
theorem dX3_inspect_19 : decode cX3_inspect 19 = .ok (.invokevirtual 131, 3) := dk_182 0 131 (dk_at dksX3_inspect_0 19 rfl rfl)
theorem dX3_inspect_22 : decode cX3_inspect 22 = .ok (.ifCond .eq 17, 3) := dk_153 0 17 (dk_at dksX3_inspect_1 0 rfl rfl)
theorem dX3_inspect_25 : decode cX3_inspect 25 = .ok (.aload_n 0, 1) := dk_42 (dk_at dksX3_inspect_1 3 rfl rfl)
theorem dX3_inspect_26 : decode cX3_inspect 26 = .ok (.aload_n 0, 1) := dk_42 (dk_at dksX3_inspect_1 4 rfl rfl)
theorem dX3_inspect_27 : decode cX3_inspect 27 = .ok (.iload_n 1, 1) := dk_27 (dk_at dksX3_inspect_1 5 rfl rfl)
theorem dX3_inspect_28 : decode cX3_inspect 28 = .ok (.iload_n 2, 1) := dk_28 (dk_at dksX3_inspect_1 6 rfl rfl)
theorem dX3_inspect_29 : decode cX3_inspect 29 = .ok (.invokevirtual 134, 3) := dk_182 0 134 (dk_at dksX3_inspect_1 7 rfl rfl)
theorem dX3_inspect_32 : decode cX3_inspect 32 = .ok (.iconst 2, 1) := dk_5 (dk_at dksX3_inspect_1 10 rfl rfl)
theorem dX3_inspect_33 : decode cX3_inspect 33 = .ok (.invokevirtual 113, 3) := dk_182 0 113 (dk_at dksX3_inspect_1 11 rfl rfl)
theorem dX3_inspect_36 : decode cX3_inspect 36 = .ok (.goto 8, 3) := dk_167 0 8 (dk_at dksX3_inspect_1 14 rfl rfl)
theorem dX3_inspect_39 : decode cX3_inspect 39 = .ok (.aload_n 0, 1) := dk_42 (dk_at dksX3_inspect_1 17 rfl rfl)
theorem dX3_inspect_40 : decode cX3_inspect 40 = .ok (.iconst 1, 1) := dk_4 (dk_at dksX3_inspect_1 18 rfl rfl)
theorem dX3_inspect_41 : decode cX3_inspect 41 = .ok (.invokevirtual 67, 3) := dk_182 0 67 (dk_at dksX3_inspect_1 19 rfl rfl)
theorem dX3_inspect_44 : decode cX3_inspect 44 = .ok (.ireturn, 1) := dk_172 (dk_at dksX3_inspect_1 22 rfl rfl)
abbrev cX3_inspects : ByteArray := prog_20_method_22_code
def yX3_inspects : MethodName := ⟨RX3, "inspects", "(II)I"⟩
def dkwX3_inspects_16 : List UInt8 := [180, 0, 7, 6, 92, 46, 4, 96, 79, 42, 21, 4, 182, 0, 101, 172]
abbrev dktX3_inspects_16 : List UInt8 := dkwX3_inspects_16 ++ []
def dkwX3_inspects_15 : List UInt8 := [180, 0, 7, 16, 113, 28, 96, 46, 96, 7, 112, 154, 0, 7, 4, 167, 0, 4, 3, 96, 79, 42]
abbrev dktX3_inspects_15 : List UInt8 := dkwX3_inspects_15 ++ dktX3_inspects_16
def dkwX3_inspects_14 : List UInt8 := [4, 96, 79, 42, 180, 0, 7, 16, 109, 28, 96, 92, 46, 42, 180, 0, 7, 16, 105, 28, 96, 46, 42]
abbrev dktX3_inspects_14 : List UInt8 := dkwX3_inspects_14 ++ dktX3_inspects_15
def dkwX3_inspects_13 : List UInt8 := [180, 0, 7, 16, 95, 27, 96, 42, 180, 0, 7, 3, 46, 79, 42, 180, 0, 7, 16, 113, 28, 96, 92, 46]
abbrev dktX3_inspects_13 : List UInt8 := dkwX3_inspects_13 ++ dktX3_inspects_14
def dkwX3_inspects_12 : List UInt8 := [180, 0, 7, 16, 10, 42, 180, 0, 7, 16, 15, 27, 96, 46, 96, 92, 46, 21, 4, 96, 79, 42]
abbrev dktX3_inspects_12 : List UInt8 := dkwX3_inspects_12 ++ dktX3_inspects_13
def dkwX3_inspects_11 : List UInt8 := [21, 4, 21, 5, 100, 96, 79, 42, 180, 0, 7, 16, 85, 27, 96, 92, 46, 21, 4, 96, 79, 42]
abbrev dktX3_inspects_11 : List UInt8 := dkwX3_inspects_11 ++ dktX3_inspects_12
def dkwX3_inspects_10 : List UInt8 := [180, 0, 7, 16, 25, 27, 96, 92, 46, 21, 5, 100, 79, 42, 180, 0, 7, 16, 35, 27, 96, 92, 46]
abbrev dktX3_inspects_10 : List UInt8 := dkwX3_inspects_10 ++ dktX3_inspects_11
def dkwX3_inspects_9 : List UInt8 := [96, 46, 21, 4, 162, 0, 15, 42, 180, 0, 7, 16, 25, 27, 96, 46, 167, 0, 5, 21, 4, 54, 5, 42]
abbrev dktX3_inspects_9 : List UInt8 := dkwX3_inspects_9 ++ dktX3_inspects_10
def dkwX3_inspects_8 : List UInt8 := [164, 0, 7, 3, 167, 0, 12, 42, 180, 0, 7, 16, 75, 27, 96, 46, 79, 42, 180, 0, 7, 16, 25, 27]
abbrev dktX3_inspects_8 : List UInt8 := dkwX3_inspects_8 ++ dktX3_inspects_9
def dkwX3_inspects_7 : List UInt8 := [167, 0, 4, 2, 79, 42, 180, 0, 7, 16, 75, 27, 96, 42, 180, 0, 7, 16, 75, 27, 96, 46, 5]
abbrev dktX3_inspects_7 : List UInt8 := dkwX3_inspects_7 ++ dktX3_inspects_8
def dkwX3_inspects_6 : List UInt8 := [180, 0, 7, 16, 65, 27, 96, 29, 16, 252, 7, 184, 0, 70, 153, 0, 12, 42, 180, 0, 7, 3, 46]
abbrev dktX3_inspects_6 : List UInt8 := dkwX3_inspects_6 ++ dktX3_inspects_7
def dkwX3_inspects_5 : List UInt8 := [96, 46, 182, 0, 95, 172, 42, 27, 28, 182, 0, 92, 62, 42, 27, 28, 182, 0, 98, 54, 4, 42]
abbrev dktX3_inspects_5 : List UInt8 := dkwX3_inspects_5 ++ dktX3_inspects_6
def dkwX3_inspects_4 : List UInt8 := [172, 42, 180, 0, 7, 16, 109, 28, 96, 46, 16, 9, 164, 0, 18, 42, 7, 42, 180, 0, 7, 16, 109, 28]
abbrev dktX3_inspects_4 : List UInt8 := dkwX3_inspects_4 ++ dktX3_inspects_5
def dkwX3_inspects_3 : List UInt8 := [180, 0, 50, 5, 160, 0, 15, 42, 180, 0, 7, 16, 15, 27, 96, 46, 167, 0, 4, 27, 181, 0, 53, 29]
abbrev dktX3_inspects_3 : List UInt8 := dkwX3_inspects_3 ++ dktX3_inspects_4
def dkwX3_inspects_2 : List UInt8 := [16, 15, 27, 96, 46, 42, 182, 0, 74, 159, 0, 7, 5, 167, 0, 4, 6, 181, 0, 50, 42, 42]
abbrev dktX3_inspects_2 : List UInt8 := dkwX3_inspects_2 ++ dktX3_inspects_3
def dkwX3_inspects_1 : List UInt8 := [46, 42, 180, 0, 7, 3, 46, 160, 0, 63, 42, 16, 12, 27, 182, 0, 95, 62, 42, 42, 180, 0, 7]
abbrev dktX3_inspects_1 : List UInt8 := dkwX3_inspects_1 ++ dktX3_inspects_2
def dkwX3_inspects_0 : List UInt8 := [42, 180, 0, 7, 16, 15, 27, 96, 46, 42, 182, 0, 74, 160, 0, 21, 42, 180, 0, 7, 16, 95, 27, 96]
abbrev dktX3_inspects_0 : List UInt8 := dkwX3_inspects_0 ++ dktX3_inspects_1
theorem dksX3_inspects_0 : cX3_inspects.data.toList.drop 0 = dktX3_inspects_0 := by decide +kernel
theorem dksX3_inspects_1 : cX3_inspects.data.toList.drop 24 = dktX3_inspects_1 := dk_seg dksX3_inspects_0 24 rfl rfl
theorem dksX3_inspects_2 : cX3_inspects.data.toList.drop 47 = dktX3_inspects_2 := dk_seg dksX3_inspects_1 23 rfl rfl
theorem dksX3_inspects_3 : cX3_inspects.data.toList.drop 69 = dktX3_inspects_3 := dk_seg dksX3_inspects_2 22 rfl rfl
theorem dksX3_inspects_4 : cX3_inspects.data.toList.drop 93 = dktX3_inspects_4 := dk_seg dksX3_inspects_3 24 rfl rfl
theorem dksX3_inspects_5 : cX3_inspects.data.toList.drop 117 = dktX3_inspects_5 := dk_seg dksX3_inspects_4 24 rfl rfl
theorem dksX3_inspects_6 : cX3_inspects.data.toList.drop 139 = dktX3_inspects_6 := dk_seg dksX3_inspects_5 22 rfl rfl
theorem dksX3_inspects_7 : cX3_inspects.data.toList.drop 162 = dktX3_inspects_7 := dk_seg dksX3_inspects_6 23 rfl rfl
theorem dksX3_inspects_8 : cX3_inspects.data.toList.drop 185 = dktX3_inspects_8 := dk_seg dksX3_inspects_7 23 rfl rfl
theorem dksX3_inspects_9 : cX3_inspects.data.toList.drop 209 = dktX3_inspects_9 := dk_seg dksX3_inspects_8 24 rfl rfl
theorem dksX3_inspects_10 : cX3_inspects.data.toList.drop 233 = dktX3_inspects_10 := dk_seg dksX3_inspects_9 24 rfl rfl
theorem dksX3_inspects_11 : cX3_inspects.data.toList.drop 256 = dktX3_inspects_11 := dk_seg dksX3_inspects_10 23 rfl rfl
theorem dksX3_inspects_12 : cX3_inspects.data.toList.drop 278 = dktX3_inspects_12 := dk_seg dksX3_inspects_11 22 rfl rfl
theorem dksX3_inspects_13 : cX3_inspects.data.toList.drop 300 = dktX3_inspects_13 := dk_seg dksX3_inspects_12 22 rfl rfl
theorem dksX3_inspects_14 : cX3_inspects.data.toList.drop 324 = dktX3_inspects_14 := dk_seg dksX3_inspects_13 24 rfl rfl
theorem dksX3_inspects_15 : cX3_inspects.data.toList.drop 347 = dktX3_inspects_15 := dk_seg dksX3_inspects_14 23 rfl rfl
theorem dksX3_inspects_16 : cX3_inspects.data.toList.drop 369 = dktX3_inspects_16 := dk_seg dksX3_inspects_15 22 rfl rfl
theorem dX3_inspects_0 : decode cX3_inspects 0 = .ok (.aload_n 0, 1) := dk_42 (dk_at dksX3_inspects_0 0 rfl rfl)
theorem dX3_inspects_1 : decode cX3_inspects 1 = .ok (.getfield 7, 3) := dk_180 0 7 (dk_at dksX3_inspects_0 1 rfl rfl)
theorem dX3_inspects_4 : decode cX3_inspects 4 = .ok (.bipush 15, 2) := dk_16 15 (dk_at dksX3_inspects_0 4 rfl rfl)
theorem dX3_inspects_6 : decode cX3_inspects 6 = .ok (.iload_n 1, 1) := dk_27 (dk_at dksX3_inspects_0 6 rfl rfl)
theorem dX3_inspects_7 : decode cX3_inspects 7 = .ok (.iadd, 1) := dk_96 (dk_at dksX3_inspects_0 7 rfl rfl)
theorem dX3_inspects_8 : decode cX3_inspects 8 = .ok (.iaload, 1) := dk_46 (dk_at dksX3_inspects_0 8 rfl rfl)
theorem dX3_inspects_9 : decode cX3_inspects 9 = .ok (.aload_n 0, 1) := dk_42 (dk_at dksX3_inspects_0 9 rfl rfl)
theorem dX3_inspects_10 : decode cX3_inspects 10 = .ok (.invokevirtual 74, 3) := dk_182 0 74 (dk_at dksX3_inspects_0 10 rfl rfl)
theorem dX3_inspects_13 : decode cX3_inspects 13 = .ok (.if_icmp .ne 21, 3) := dk_160 0 21 (dk_at dksX3_inspects_0 13 rfl rfl)
theorem dX3_inspects_16 : decode cX3_inspects 16 = .ok (.aload_n 0, 1) := dk_42 (dk_at dksX3_inspects_0 16 rfl rfl)
theorem dX3_inspects_17 : decode cX3_inspects 17 = .ok (.getfield 7, 3) := dk_180 0 7 (dk_at dksX3_inspects_0 17 rfl rfl)
theorem dX3_inspects_20 : decode cX3_inspects 20 = .ok (.bipush 95, 2) := dk_16 95 (dk_at dksX3_inspects_0 20 rfl rfl)
theorem dX3_inspects_22 : decode cX3_inspects 22 = .ok (.iload_n 1, 1) := dk_27 (dk_at dksX3_inspects_0 22 rfl rfl)
theorem dX3_inspects_23 : decode cX3_inspects 23 = .ok (.iadd, 1) := dk_96 (dk_at dksX3_inspects_0 23 rfl rfl)
theorem dX3_inspects_24 : decode cX3_inspects 24 = .ok (.iaload, 1) := dk_46 (dk_at dksX3_inspects_1 0 rfl rfl)
theorem dX3_inspects_25 : decode cX3_inspects 25 = .ok (.aload_n 0, 1) := dk_42 (dk_at dksX3_inspects_1 1 rfl rfl)
theorem dX3_inspects_26 : decode cX3_inspects 26 = .ok (.getfield 7, 3) := dk_180 0 7 (dk_at dksX3_inspects_1 2 rfl rfl)
theorem dX3_inspects_29 : decode cX3_inspects 29 = .ok (.iconst 0, 1) := dk_3 (dk_at dksX3_inspects_1 5 rfl rfl)
theorem dX3_inspects_30 : decode cX3_inspects 30 = .ok (.iaload, 1) := dk_46 (dk_at dksX3_inspects_1 6 rfl rfl)
theorem dX3_inspects_31 : decode cX3_inspects 31 = .ok (.if_icmp .ne 63, 3) := dk_160 0 63 (dk_at dksX3_inspects_1 7 rfl rfl)
theorem dX3_inspects_34 : decode cX3_inspects 34 = .ok (.aload_n 0, 1) := dk_42 (dk_at dksX3_inspects_1 10 rfl rfl)
theorem dX3_inspects_35 : decode cX3_inspects 35 = .ok (.bipush 12, 2) := dk_16 12 (dk_at dksX3_inspects_1 11 rfl rfl)
theorem dX3_inspects_37 : decode cX3_inspects 37 = .ok (.iload_n 1, 1) := dk_27 (dk_at dksX3_inspects_1 13 rfl rfl)
theorem dX3_inspects_38 : decode cX3_inspects 38 = .ok (.invokevirtual 95, 3) := dk_182 0 95 (dk_at dksX3_inspects_1 14 rfl rfl)
theorem dX3_inspects_41 : decode cX3_inspects 41 = .ok (.istore_n 3, 1) := dk_62 (dk_at dksX3_inspects_1 17 rfl rfl)
theorem dX3_inspects_42 : decode cX3_inspects 42 = .ok (.aload_n 0, 1) := dk_42 (dk_at dksX3_inspects_1 18 rfl rfl)
theorem dX3_inspects_43 : decode cX3_inspects 43 = .ok (.aload_n 0, 1) := dk_42 (dk_at dksX3_inspects_1 19 rfl rfl)
theorem dX3_inspects_44 : decode cX3_inspects 44 = .ok (.getfield 7, 3) := dk_180 0 7 (dk_at dksX3_inspects_1 20 rfl rfl)
theorem dX3_inspects_47 : decode cX3_inspects 47 = .ok (.bipush 15, 2) := dk_16 15 (dk_at dksX3_inspects_2 0 rfl rfl)
theorem dX3_inspects_49 : decode cX3_inspects 49 = .ok (.iload_n 1, 1) := dk_27 (dk_at dksX3_inspects_2 2 rfl rfl)
theorem dX3_inspects_50 : decode cX3_inspects 50 = .ok (.iadd, 1) := dk_96 (dk_at dksX3_inspects_2 3 rfl rfl)
theorem dX3_inspects_51 : decode cX3_inspects 51 = .ok (.iaload, 1) := dk_46 (dk_at dksX3_inspects_2 4 rfl rfl)
theorem dX3_inspects_52 : decode cX3_inspects 52 = .ok (.aload_n 0, 1) := dk_42 (dk_at dksX3_inspects_2 5 rfl rfl)
theorem dX3_inspects_53 : decode cX3_inspects 53 = .ok (.invokevirtual 74, 3) := dk_182 0 74 (dk_at dksX3_inspects_2 6 rfl rfl)
theorem dX3_inspects_56 : decode cX3_inspects 56 = .ok (.if_icmp .eq 7, 3) := dk_159 0 7 (dk_at dksX3_inspects_2 9 rfl rfl)
theorem dX3_inspects_59 : decode cX3_inspects 59 = .ok (.iconst 2, 1) := dk_5 (dk_at dksX3_inspects_2 12 rfl rfl)
theorem dX3_inspects_60 : decode cX3_inspects 60 = .ok (.goto 4, 3) := dk_167 0 4 (dk_at dksX3_inspects_2 13 rfl rfl)
theorem dX3_inspects_63 : decode cX3_inspects 63 = .ok (.iconst 3, 1) := dk_6 (dk_at dksX3_inspects_2 16 rfl rfl)
theorem dX3_inspects_64 : decode cX3_inspects 64 = .ok (.putfield 50, 3) := dk_181 0 50 (dk_at dksX3_inspects_2 17 rfl rfl)
theorem dX3_inspects_67 : decode cX3_inspects 67 = .ok (.aload_n 0, 1) := dk_42 (dk_at dksX3_inspects_2 20 rfl rfl)
theorem dX3_inspects_68 : decode cX3_inspects 68 = .ok (.aload_n 0, 1) := dk_42 (dk_at dksX3_inspects_2 21 rfl rfl)
theorem dX3_inspects_69 : decode cX3_inspects 69 = .ok (.getfield 50, 3) := dk_180 0 50 (dk_at dksX3_inspects_3 0 rfl rfl)
theorem dX3_inspects_72 : decode cX3_inspects 72 = .ok (.iconst 2, 1) := dk_5 (dk_at dksX3_inspects_3 3 rfl rfl)
theorem dX3_inspects_73 : decode cX3_inspects 73 = .ok (.if_icmp .ne 15, 3) := dk_160 0 15 (dk_at dksX3_inspects_3 4 rfl rfl)
theorem dX3_inspects_76 : decode cX3_inspects 76 = .ok (.aload_n 0, 1) := dk_42 (dk_at dksX3_inspects_3 7 rfl rfl)
theorem dX3_inspects_77 : decode cX3_inspects 77 = .ok (.getfield 7, 3) := dk_180 0 7 (dk_at dksX3_inspects_3 8 rfl rfl)
theorem dX3_inspects_80 : decode cX3_inspects 80 = .ok (.bipush 15, 2) := dk_16 15 (dk_at dksX3_inspects_3 11 rfl rfl)
theorem dX3_inspects_82 : decode cX3_inspects 82 = .ok (.iload_n 1, 1) := dk_27 (dk_at dksX3_inspects_3 13 rfl rfl)
theorem dX3_inspects_83 : decode cX3_inspects 83 = .ok (.iadd, 1) := dk_96 (dk_at dksX3_inspects_3 14 rfl rfl)
theorem dX3_inspects_84 : decode cX3_inspects 84 = .ok (.iaload, 1) := dk_46 (dk_at dksX3_inspects_3 15 rfl rfl)
theorem dX3_inspects_85 : decode cX3_inspects 85 = .ok (.goto 4, 3) := dk_167 0 4 (dk_at dksX3_inspects_3 16 rfl rfl)
theorem dX3_inspects_88 : decode cX3_inspects 88 = .ok (.iload_n 1, 1) := dk_27 (dk_at dksX3_inspects_3 19 rfl rfl)
theorem dX3_inspects_89 : decode cX3_inspects 89 = .ok (.putfield 53, 3) := dk_181 0 53 (dk_at dksX3_inspects_3 20 rfl rfl)
theorem dX3_inspects_92 : decode cX3_inspects 92 = .ok (.iload_n 3, 1) := dk_29 (dk_at dksX3_inspects_3 23 rfl rfl)
theorem dX3_inspects_93 : decode cX3_inspects 93 = .ok (.ireturn, 1) := dk_172 (dk_at dksX3_inspects_4 0 rfl rfl)
theorem dX3_inspects_94 : decode cX3_inspects 94 = .ok (.aload_n 0, 1) := dk_42 (dk_at dksX3_inspects_4 1 rfl rfl)
theorem dX3_inspects_95 : decode cX3_inspects 95 = .ok (.getfield 7, 3) := dk_180 0 7 (dk_at dksX3_inspects_4 2 rfl rfl)
theorem dX3_inspects_98 : decode cX3_inspects 98 = .ok (.bipush 109, 2) := dk_16 109 (dk_at dksX3_inspects_4 5 rfl rfl)
theorem dX3_inspects_100 : decode cX3_inspects 100 = .ok (.iload_n 2, 1) := dk_28 (dk_at dksX3_inspects_4 7 rfl rfl)
theorem dX3_inspects_101 : decode cX3_inspects 101 = .ok (.iadd, 1) := dk_96 (dk_at dksX3_inspects_4 8 rfl rfl)
theorem dX3_inspects_102 : decode cX3_inspects 102 = .ok (.iaload, 1) := dk_46 (dk_at dksX3_inspects_4 9 rfl rfl)
theorem dX3_inspects_103 : decode cX3_inspects 103 = .ok (.bipush 9, 2) := dk_16 9 (dk_at dksX3_inspects_4 10 rfl rfl)
theorem dX3_inspects_105 : decode cX3_inspects 105 = .ok (.if_icmp .le 18, 3) := dk_164 0 18 (dk_at dksX3_inspects_4 12 rfl rfl)
theorem dX3_inspects_108 : decode cX3_inspects 108 = .ok (.aload_n 0, 1) := dk_42 (dk_at dksX3_inspects_4 15 rfl rfl)
theorem dX3_inspects_109 : decode cX3_inspects 109 = .ok (.iconst 4, 1) := dk_7 (dk_at dksX3_inspects_4 16 rfl rfl)
theorem dX3_inspects_110 : decode cX3_inspects 110 = .ok (.aload_n 0, 1) := dk_42 (dk_at dksX3_inspects_4 17 rfl rfl)
theorem dX3_inspects_111 : decode cX3_inspects 111 = .ok (.getfield 7, 3) := dk_180 0 7 (dk_at dksX3_inspects_4 18 rfl rfl)
theorem dX3_inspects_114 : decode cX3_inspects 114 = .ok (.bipush 109, 2) := dk_16 109 (dk_at dksX3_inspects_4 21 rfl rfl)
theorem dX3_inspects_116 : decode cX3_inspects 116 = .ok (.iload_n 2, 1) := dk_28 (dk_at dksX3_inspects_4 23 rfl rfl)
theorem dX3_inspects_117 : decode cX3_inspects 117 = .ok (.iadd, 1) := dk_96 (dk_at dksX3_inspects_5 0 rfl rfl)
theorem dX3_inspects_118 : decode cX3_inspects 118 = .ok (.iaload, 1) := dk_46 (dk_at dksX3_inspects_5 1 rfl rfl)
theorem dX3_inspects_119 : decode cX3_inspects 119 = .ok (.invokevirtual 95, 3) := dk_182 0 95 (dk_at dksX3_inspects_5 2 rfl rfl)
theorem dX3_inspects_122 : decode cX3_inspects 122 = .ok (.ireturn, 1) := dk_172 (dk_at dksX3_inspects_5 5 rfl rfl)
theorem dX3_inspects_123 : decode cX3_inspects 123 = .ok (.aload_n 0, 1) := dk_42 (dk_at dksX3_inspects_5 6 rfl rfl)
theorem dX3_inspects_124 : decode cX3_inspects 124 = .ok (.iload_n 1, 1) := dk_27 (dk_at dksX3_inspects_5 7 rfl rfl)
theorem dX3_inspects_125 : decode cX3_inspects 125 = .ok (.iload_n 2, 1) := dk_28 (dk_at dksX3_inspects_5 8 rfl rfl)
theorem dX3_inspects_126 : decode cX3_inspects 126 = .ok (.invokevirtual 92, 3) := dk_182 0 92 (dk_at dksX3_inspects_5 9 rfl rfl)
theorem dX3_inspects_129 : decode cX3_inspects 129 = .ok (.istore_n 3, 1) := dk_62 (dk_at dksX3_inspects_5 12 rfl rfl)
theorem dX3_inspects_130 : decode cX3_inspects 130 = .ok (.aload_n 0, 1) := dk_42 (dk_at dksX3_inspects_5 13 rfl rfl)
theorem dX3_inspects_131 : decode cX3_inspects 131 = .ok (.iload_n 1, 1) := dk_27 (dk_at dksX3_inspects_5 14 rfl rfl)
theorem dX3_inspects_132 : decode cX3_inspects 132 = .ok (.iload_n 2, 1) := dk_28 (dk_at dksX3_inspects_5 15 rfl rfl)
theorem dX3_inspects_133 : decode cX3_inspects 133 = .ok (.invokevirtual 98, 3) := dk_182 0 98 (dk_at dksX3_inspects_5 16 rfl rfl)
theorem dX3_inspects_136 : decode cX3_inspects 136 = .ok (.istore 4, 2) := dk_54 4 (dk_at dksX3_inspects_5 19 rfl rfl)
theorem dX3_inspects_138 : decode cX3_inspects 138 = .ok (.aload_n 0, 1) := dk_42 (dk_at dksX3_inspects_5 21 rfl rfl)
theorem dX3_inspects_139 : decode cX3_inspects 139 = .ok (.getfield 7, 3) := dk_180 0 7 (dk_at dksX3_inspects_6 0 rfl rfl)
theorem dX3_inspects_142 : decode cX3_inspects 142 = .ok (.bipush 65, 2) := dk_16 65 (dk_at dksX3_inspects_6 3 rfl rfl)
theorem dX3_inspects_144 : decode cX3_inspects 144 = .ok (.iload_n 1, 1) := dk_27 (dk_at dksX3_inspects_6 5 rfl rfl)
theorem dX3_inspects_145 : decode cX3_inspects 145 = .ok (.iadd, 1) := dk_96 (dk_at dksX3_inspects_6 6 rfl rfl)
theorem dX3_inspects_146 : decode cX3_inspects 146 = .ok (.iload_n 3, 1) := dk_29 (dk_at dksX3_inspects_6 7 rfl rfl)
theorem dX3_inspects_147 : decode cX3_inspects 147 = .ok (.bipush (-4), 2) := dk_16 252 (dk_at dksX3_inspects_6 8 rfl rfl)
theorem dX3_inspects_149 : decode cX3_inspects 149 = .ok (.iconst 4, 1) := dk_7 (dk_at dksX3_inspects_6 10 rfl rfl)
theorem dX3_inspects_150 : decode cX3_inspects 150 = .ok (.invokestatic 70, 3) := dk_184 0 70 (dk_at dksX3_inspects_6 11 rfl rfl)
theorem dX3_inspects_153 : decode cX3_inspects 153 = .ok (.ifCond .eq 12, 3) := dk_153 0 12 (dk_at dksX3_inspects_6 14 rfl rfl)
theorem dX3_inspects_156 : decode cX3_inspects 156 = .ok (.aload_n 0, 1) := dk_42 (dk_at dksX3_inspects_6 17 rfl rfl)
theorem dX3_inspects_157 : decode cX3_inspects 157 = .ok (.getfield 7, 3) := dk_180 0 7 (dk_at dksX3_inspects_6 18 rfl rfl)
theorem dX3_inspects_160 : decode cX3_inspects 160 = .ok (.iconst 0, 1) := dk_3 (dk_at dksX3_inspects_6 21 rfl rfl)
theorem dX3_inspects_161 : decode cX3_inspects 161 = .ok (.iaload, 1) := dk_46 (dk_at dksX3_inspects_6 22 rfl rfl)
theorem dX3_inspects_162 : decode cX3_inspects 162 = .ok (.goto 4, 3) := dk_167 0 4 (dk_at dksX3_inspects_7 0 rfl rfl)
theorem dX3_inspects_165 : decode cX3_inspects 165 = .ok (.iconst (-1), 1) := dk_2 (dk_at dksX3_inspects_7 3 rfl rfl)
theorem dX3_inspects_166 : decode cX3_inspects 166 = .ok (.iastore, 1) := dk_79 (dk_at dksX3_inspects_7 4 rfl rfl)
theorem dX3_inspects_167 : decode cX3_inspects 167 = .ok (.aload_n 0, 1) := dk_42 (dk_at dksX3_inspects_7 5 rfl rfl)
theorem dX3_inspects_168 : decode cX3_inspects 168 = .ok (.getfield 7, 3) := dk_180 0 7 (dk_at dksX3_inspects_7 6 rfl rfl)
theorem dX3_inspects_171 : decode cX3_inspects 171 = .ok (.bipush 75, 2) := dk_16 75 (dk_at dksX3_inspects_7 9 rfl rfl)
theorem dX3_inspects_173 : decode cX3_inspects 173 = .ok (.iload_n 1, 1) := dk_27 (dk_at dksX3_inspects_7 11 rfl rfl)
theorem dX3_inspects_174 : decode cX3_inspects 174 = .ok (.iadd, 1) := dk_96 (dk_at dksX3_inspects_7 12 rfl rfl)
theorem dX3_inspects_175 : decode cX3_inspects 175 = .ok (.aload_n 0, 1) := dk_42 (dk_at dksX3_inspects_7 13 rfl rfl)
theorem dX3_inspects_176 : decode cX3_inspects 176 = .ok (.getfield 7, 3) := dk_180 0 7 (dk_at dksX3_inspects_7 14 rfl rfl)
theorem dX3_inspects_179 : decode cX3_inspects 179 = .ok (.bipush 75, 2) := dk_16 75 (dk_at dksX3_inspects_7 17 rfl rfl)
theorem dX3_inspects_181 : decode cX3_inspects 181 = .ok (.iload_n 1, 1) := dk_27 (dk_at dksX3_inspects_7 19 rfl rfl)
theorem dX3_inspects_182 : decode cX3_inspects 182 = .ok (.iadd, 1) := dk_96 (dk_at dksX3_inspects_7 20 rfl rfl)
theorem dX3_inspects_183 : decode cX3_inspects 183 = .ok (.iaload, 1) := dk_46 (dk_at dksX3_inspects_7 21 rfl rfl)
theorem dX3_inspects_184 : decode cX3_inspects 184 = .ok (.iconst 2, 1) := dk_5 (dk_at dksX3_inspects_7 22 rfl rfl)
theorem dX3_inspects_185 : decode cX3_inspects 185 = .ok (.if_icmp .le 7, 3) := dk_164 0 7 (dk_at dksX3_inspects_8 0 rfl rfl)
theorem dX3_inspects_188 : decode cX3_inspects 188 = .ok (.iconst 0, 1) := dk_3 (dk_at dksX3_inspects_8 3 rfl rfl)
theorem dX3_inspects_189 : decode cX3_inspects 189 = .ok (.goto 12, 3) := dk_167 0 12 (dk_at dksX3_inspects_8 4 rfl rfl)
theorem dX3_inspects_192 : decode cX3_inspects 192 = .ok (.aload_n 0, 1) := dk_42 (dk_at dksX3_inspects_8 7 rfl rfl)
theorem dX3_inspects_193 : decode cX3_inspects 193 = .ok (.getfield 7, 3) := dk_180 0 7 (dk_at dksX3_inspects_8 8 rfl rfl)
theorem dX3_inspects_196 : decode cX3_inspects 196 = .ok (.bipush 75, 2) := dk_16 75 (dk_at dksX3_inspects_8 11 rfl rfl)
theorem dX3_inspects_198 : decode cX3_inspects 198 = .ok (.iload_n 1, 1) := dk_27 (dk_at dksX3_inspects_8 13 rfl rfl)
theorem dX3_inspects_199 : decode cX3_inspects 199 = .ok (.iadd, 1) := dk_96 (dk_at dksX3_inspects_8 14 rfl rfl)
theorem dX3_inspects_200 : decode cX3_inspects 200 = .ok (.iaload, 1) := dk_46 (dk_at dksX3_inspects_8 15 rfl rfl)
theorem dX3_inspects_201 : decode cX3_inspects 201 = .ok (.iastore, 1) := dk_79 (dk_at dksX3_inspects_8 16 rfl rfl)
theorem dX3_inspects_202 : decode cX3_inspects 202 = .ok (.aload_n 0, 1) := dk_42 (dk_at dksX3_inspects_8 17 rfl rfl)
theorem dX3_inspects_203 : decode cX3_inspects 203 = .ok (.getfield 7, 3) := dk_180 0 7 (dk_at dksX3_inspects_8 18 rfl rfl)
theorem dX3_inspects_206 : decode cX3_inspects 206 = .ok (.bipush 25, 2) := dk_16 25 (dk_at dksX3_inspects_8 21 rfl rfl)
theorem dX3_inspects_208 : decode cX3_inspects 208 = .ok (.iload_n 1, 1) := dk_27 (dk_at dksX3_inspects_8 23 rfl rfl)
theorem dX3_inspects_209 : decode cX3_inspects 209 = .ok (.iadd, 1) := dk_96 (dk_at dksX3_inspects_9 0 rfl rfl)
theorem dX3_inspects_210 : decode cX3_inspects 210 = .ok (.iaload, 1) := dk_46 (dk_at dksX3_inspects_9 1 rfl rfl)
theorem dX3_inspects_211 : decode cX3_inspects 211 = .ok (.iload 4, 2) := dk_21 4 (dk_at dksX3_inspects_9 2 rfl rfl)
theorem dX3_inspects_213 : decode cX3_inspects 213 = .ok (.if_icmp .ge 15, 3) := dk_162 0 15 (dk_at dksX3_inspects_9 4 rfl rfl)
theorem dX3_inspects_216 : decode cX3_inspects 216 = .ok (.aload_n 0, 1) := dk_42 (dk_at dksX3_inspects_9 7 rfl rfl)
theorem dX3_inspects_217 : decode cX3_inspects 217 = .ok (.getfield 7, 3) := dk_180 0 7 (dk_at dksX3_inspects_9 8 rfl rfl)
theorem dX3_inspects_220 : decode cX3_inspects 220 = .ok (.bipush 25, 2) := dk_16 25 (dk_at dksX3_inspects_9 11 rfl rfl)
theorem dX3_inspects_222 : decode cX3_inspects 222 = .ok (.iload_n 1, 1) := dk_27 (dk_at dksX3_inspects_9 13 rfl rfl)
theorem dX3_inspects_223 : decode cX3_inspects 223 = .ok (.iadd, 1) := dk_96 (dk_at dksX3_inspects_9 14 rfl rfl)
theorem dX3_inspects_224 : decode cX3_inspects 224 = .ok (.iaload, 1) := dk_46 (dk_at dksX3_inspects_9 15 rfl rfl)
theorem dX3_inspects_225 : decode cX3_inspects 225 = .ok (.goto 5, 3) := dk_167 0 5 (dk_at dksX3_inspects_9 16 rfl rfl)
theorem dX3_inspects_228 : decode cX3_inspects 228 = .ok (.iload 4, 2) := dk_21 4 (dk_at dksX3_inspects_9 19 rfl rfl)
theorem dX3_inspects_230 : decode cX3_inspects 230 = .ok (.istore 5, 2) := dk_54 5 (dk_at dksX3_inspects_9 21 rfl rfl)
theorem dX3_inspects_232 : decode cX3_inspects 232 = .ok (.aload_n 0, 1) := dk_42 (dk_at dksX3_inspects_9 23 rfl rfl)
theorem dX3_inspects_233 : decode cX3_inspects 233 = .ok (.getfield 7, 3) := dk_180 0 7 (dk_at dksX3_inspects_10 0 rfl rfl)
theorem dX3_inspects_236 : decode cX3_inspects 236 = .ok (.bipush 25, 2) := dk_16 25 (dk_at dksX3_inspects_10 3 rfl rfl)
theorem dX3_inspects_238 : decode cX3_inspects 238 = .ok (.iload_n 1, 1) := dk_27 (dk_at dksX3_inspects_10 5 rfl rfl)
theorem dX3_inspects_239 : decode cX3_inspects 239 = .ok (.iadd, 1) := dk_96 (dk_at dksX3_inspects_10 6 rfl rfl)
theorem dX3_inspects_240 : decode cX3_inspects 240 = .ok (.dup2, 1) := dk_92 (dk_at dksX3_inspects_10 7 rfl rfl)
theorem dX3_inspects_241 : decode cX3_inspects 241 = .ok (.iaload, 1) := dk_46 (dk_at dksX3_inspects_10 8 rfl rfl)
theorem dX3_inspects_242 : decode cX3_inspects 242 = .ok (.iload 5, 2) := dk_21 5 (dk_at dksX3_inspects_10 9 rfl rfl)
theorem dX3_inspects_244 : decode cX3_inspects 244 = .ok (.isub, 1) := dk_100 (dk_at dksX3_inspects_10 11 rfl rfl)
theorem dX3_inspects_245 : decode cX3_inspects 245 = .ok (.iastore, 1) := dk_79 (dk_at dksX3_inspects_10 12 rfl rfl)
theorem dX3_inspects_246 : decode cX3_inspects 246 = .ok (.aload_n 0, 1) := dk_42 (dk_at dksX3_inspects_10 13 rfl rfl)
theorem dX3_inspects_247 : decode cX3_inspects 247 = .ok (.getfield 7, 3) := dk_180 0 7 (dk_at dksX3_inspects_10 14 rfl rfl)
theorem dX3_inspects_250 : decode cX3_inspects 250 = .ok (.bipush 35, 2) := dk_16 35 (dk_at dksX3_inspects_10 17 rfl rfl)
theorem dX3_inspects_252 : decode cX3_inspects 252 = .ok (.iload_n 1, 1) := dk_27 (dk_at dksX3_inspects_10 19 rfl rfl)
theorem dX3_inspects_253 : decode cX3_inspects 253 = .ok (.iadd, 1) := dk_96 (dk_at dksX3_inspects_10 20 rfl rfl)
theorem dX3_inspects_254 : decode cX3_inspects 254 = .ok (.dup2, 1) := dk_92 (dk_at dksX3_inspects_10 21 rfl rfl)
theorem dX3_inspects_255 : decode cX3_inspects 255 = .ok (.iaload, 1) := dk_46 (dk_at dksX3_inspects_10 22 rfl rfl)
theorem dX3_inspects_256 : decode cX3_inspects 256 = .ok (.iload 4, 2) := dk_21 4 (dk_at dksX3_inspects_11 0 rfl rfl)
theorem dX3_inspects_258 : decode cX3_inspects 258 = .ok (.iload 5, 2) := dk_21 5 (dk_at dksX3_inspects_11 2 rfl rfl)
theorem dX3_inspects_260 : decode cX3_inspects 260 = .ok (.isub, 1) := dk_100 (dk_at dksX3_inspects_11 4 rfl rfl)
theorem dX3_inspects_261 : decode cX3_inspects 261 = .ok (.iadd, 1) := dk_96 (dk_at dksX3_inspects_11 5 rfl rfl)
theorem dX3_inspects_262 : decode cX3_inspects 262 = .ok (.iastore, 1) := dk_79 (dk_at dksX3_inspects_11 6 rfl rfl)
theorem dX3_inspects_263 : decode cX3_inspects 263 = .ok (.aload_n 0, 1) := dk_42 (dk_at dksX3_inspects_11 7 rfl rfl)
theorem dX3_inspects_264 : decode cX3_inspects 264 = .ok (.getfield 7, 3) := dk_180 0 7 (dk_at dksX3_inspects_11 8 rfl rfl)
theorem dX3_inspects_267 : decode cX3_inspects 267 = .ok (.bipush 85, 2) := dk_16 85 (dk_at dksX3_inspects_11 11 rfl rfl)
theorem dX3_inspects_269 : decode cX3_inspects 269 = .ok (.iload_n 1, 1) := dk_27 (dk_at dksX3_inspects_11 13 rfl rfl)
theorem dX3_inspects_270 : decode cX3_inspects 270 = .ok (.iadd, 1) := dk_96 (dk_at dksX3_inspects_11 14 rfl rfl)
theorem dX3_inspects_271 : decode cX3_inspects 271 = .ok (.dup2, 1) := dk_92 (dk_at dksX3_inspects_11 15 rfl rfl)
theorem dX3_inspects_272 : decode cX3_inspects 272 = .ok (.iaload, 1) := dk_46 (dk_at dksX3_inspects_11 16 rfl rfl)
theorem dX3_inspects_273 : decode cX3_inspects 273 = .ok (.iload 4, 2) := dk_21 4 (dk_at dksX3_inspects_11 17 rfl rfl)
theorem dX3_inspects_275 : decode cX3_inspects 275 = .ok (.iadd, 1) := dk_96 (dk_at dksX3_inspects_11 19 rfl rfl)
theorem dX3_inspects_276 : decode cX3_inspects 276 = .ok (.iastore, 1) := dk_79 (dk_at dksX3_inspects_11 20 rfl rfl)
theorem dX3_inspects_277 : decode cX3_inspects 277 = .ok (.aload_n 0, 1) := dk_42 (dk_at dksX3_inspects_11 21 rfl rfl)
theorem dX3_inspects_278 : decode cX3_inspects 278 = .ok (.getfield 7, 3) := dk_180 0 7 (dk_at dksX3_inspects_12 0 rfl rfl)
theorem dX3_inspects_281 : decode cX3_inspects 281 = .ok (.bipush 10, 2) := dk_16 10 (dk_at dksX3_inspects_12 3 rfl rfl)
theorem dX3_inspects_283 : decode cX3_inspects 283 = .ok (.aload_n 0, 1) := dk_42 (dk_at dksX3_inspects_12 5 rfl rfl)
theorem dX3_inspects_284 : decode cX3_inspects 284 = .ok (.getfield 7, 3) := dk_180 0 7 (dk_at dksX3_inspects_12 6 rfl rfl)
theorem dX3_inspects_287 : decode cX3_inspects 287 = .ok (.bipush 15, 2) := dk_16 15 (dk_at dksX3_inspects_12 9 rfl rfl)
theorem dX3_inspects_289 : decode cX3_inspects 289 = .ok (.iload_n 1, 1) := dk_27 (dk_at dksX3_inspects_12 11 rfl rfl)
theorem dX3_inspects_290 : decode cX3_inspects 290 = .ok (.iadd, 1) := dk_96 (dk_at dksX3_inspects_12 12 rfl rfl)
theorem dX3_inspects_291 : decode cX3_inspects 291 = .ok (.iaload, 1) := dk_46 (dk_at dksX3_inspects_12 13 rfl rfl)
theorem dX3_inspects_292 : decode cX3_inspects 292 = .ok (.iadd, 1) := dk_96 (dk_at dksX3_inspects_12 14 rfl rfl)
theorem dX3_inspects_293 : decode cX3_inspects 293 = .ok (.dup2, 1) := dk_92 (dk_at dksX3_inspects_12 15 rfl rfl)
theorem dX3_inspects_294 : decode cX3_inspects 294 = .ok (.iaload, 1) := dk_46 (dk_at dksX3_inspects_12 16 rfl rfl)
theorem dX3_inspects_295 : decode cX3_inspects 295 = .ok (.iload 4, 2) := dk_21 4 (dk_at dksX3_inspects_12 17 rfl rfl)
theorem dX3_inspects_297 : decode cX3_inspects 297 = .ok (.iadd, 1) := dk_96 (dk_at dksX3_inspects_12 19 rfl rfl)
theorem dX3_inspects_298 : decode cX3_inspects 298 = .ok (.iastore, 1) := dk_79 (dk_at dksX3_inspects_12 20 rfl rfl)
theorem dX3_inspects_299 : decode cX3_inspects 299 = .ok (.aload_n 0, 1) := dk_42 (dk_at dksX3_inspects_12 21 rfl rfl)
theorem dX3_inspects_300 : decode cX3_inspects 300 = .ok (.getfield 7, 3) := dk_180 0 7 (dk_at dksX3_inspects_13 0 rfl rfl)
theorem dX3_inspects_303 : decode cX3_inspects 303 = .ok (.bipush 95, 2) := dk_16 95 (dk_at dksX3_inspects_13 3 rfl rfl)
theorem dX3_inspects_305 : decode cX3_inspects 305 = .ok (.iload_n 1, 1) := dk_27 (dk_at dksX3_inspects_13 5 rfl rfl)
theorem dX3_inspects_306 : decode cX3_inspects 306 = .ok (.iadd, 1) := dk_96 (dk_at dksX3_inspects_13 6 rfl rfl)
theorem dX3_inspects_307 : decode cX3_inspects 307 = .ok (.aload_n 0, 1) := dk_42 (dk_at dksX3_inspects_13 7 rfl rfl)
theorem dX3_inspects_308 : decode cX3_inspects 308 = .ok (.getfield 7, 3) := dk_180 0 7 (dk_at dksX3_inspects_13 8 rfl rfl)
theorem dX3_inspects_311 : decode cX3_inspects 311 = .ok (.iconst 0, 1) := dk_3 (dk_at dksX3_inspects_13 11 rfl rfl)
theorem dX3_inspects_312 : decode cX3_inspects 312 = .ok (.iaload, 1) := dk_46 (dk_at dksX3_inspects_13 12 rfl rfl)
theorem dX3_inspects_313 : decode cX3_inspects 313 = .ok (.iastore, 1) := dk_79 (dk_at dksX3_inspects_13 13 rfl rfl)
theorem dX3_inspects_314 : decode cX3_inspects 314 = .ok (.aload_n 0, 1) := dk_42 (dk_at dksX3_inspects_13 14 rfl rfl)
theorem dX3_inspects_315 : decode cX3_inspects 315 = .ok (.getfield 7, 3) := dk_180 0 7 (dk_at dksX3_inspects_13 15 rfl rfl)
theorem dX3_inspects_318 : decode cX3_inspects 318 = .ok (.bipush 113, 2) := dk_16 113 (dk_at dksX3_inspects_13 18 rfl rfl)
theorem dX3_inspects_320 : decode cX3_inspects 320 = .ok (.iload_n 2, 1) := dk_28 (dk_at dksX3_inspects_13 20 rfl rfl)
theorem dX3_inspects_321 : decode cX3_inspects 321 = .ok (.iadd, 1) := dk_96 (dk_at dksX3_inspects_13 21 rfl rfl)
theorem dX3_inspects_322 : decode cX3_inspects 322 = .ok (.dup2, 1) := dk_92 (dk_at dksX3_inspects_13 22 rfl rfl)
theorem dX3_inspects_323 : decode cX3_inspects 323 = .ok (.iaload, 1) := dk_46 (dk_at dksX3_inspects_13 23 rfl rfl)
theorem dX3_inspects_324 : decode cX3_inspects 324 = .ok (.iconst 1, 1) := dk_4 (dk_at dksX3_inspects_14 0 rfl rfl)
theorem dX3_inspects_325 : decode cX3_inspects 325 = .ok (.iadd, 1) := dk_96 (dk_at dksX3_inspects_14 1 rfl rfl)
theorem dX3_inspects_326 : decode cX3_inspects 326 = .ok (.iastore, 1) := dk_79 (dk_at dksX3_inspects_14 2 rfl rfl)
theorem dX3_inspects_327 : decode cX3_inspects 327 = .ok (.aload_n 0, 1) := dk_42 (dk_at dksX3_inspects_14 3 rfl rfl)
theorem dX3_inspects_328 : decode cX3_inspects 328 = .ok (.getfield 7, 3) := dk_180 0 7 (dk_at dksX3_inspects_14 4 rfl rfl)
theorem dX3_inspects_331 : decode cX3_inspects 331 = .ok (.bipush 109, 2) := dk_16 109 (dk_at dksX3_inspects_14 7 rfl rfl)
theorem dX3_inspects_333 : decode cX3_inspects 333 = .ok (.iload_n 2, 1) := dk_28 (dk_at dksX3_inspects_14 9 rfl rfl)
theorem dX3_inspects_334 : decode cX3_inspects 334 = .ok (.iadd, 1) := dk_96 (dk_at dksX3_inspects_14 10 rfl rfl)
theorem dX3_inspects_335 : decode cX3_inspects 335 = .ok (.dup2, 1) := dk_92 (dk_at dksX3_inspects_14 11 rfl rfl)
theorem dX3_inspects_336 : decode cX3_inspects 336 = .ok (.iaload, 1) := dk_46 (dk_at dksX3_inspects_14 12 rfl rfl)
theorem dX3_inspects_337 : decode cX3_inspects 337 = .ok (.aload_n 0, 1) := dk_42 (dk_at dksX3_inspects_14 13 rfl rfl)
theorem dX3_inspects_338 : decode cX3_inspects 338 = .ok (.getfield 7, 3) := dk_180 0 7 (dk_at dksX3_inspects_14 14 rfl rfl)
theorem dX3_inspects_341 : decode cX3_inspects 341 = .ok (.bipush 105, 2) := dk_16 105 (dk_at dksX3_inspects_14 17 rfl rfl)
theorem dX3_inspects_343 : decode cX3_inspects 343 = .ok (.iload_n 2, 1) := dk_28 (dk_at dksX3_inspects_14 19 rfl rfl)
theorem dX3_inspects_344 : decode cX3_inspects 344 = .ok (.iadd, 1) := dk_96 (dk_at dksX3_inspects_14 20 rfl rfl)
theorem dX3_inspects_345 : decode cX3_inspects 345 = .ok (.iaload, 1) := dk_46 (dk_at dksX3_inspects_14 21 rfl rfl)
theorem dX3_inspects_346 : decode cX3_inspects 346 = .ok (.aload_n 0, 1) := dk_42 (dk_at dksX3_inspects_14 22 rfl rfl)
theorem dX3_inspects_347 : decode cX3_inspects 347 = .ok (.getfield 7, 3) := dk_180 0 7 (dk_at dksX3_inspects_15 0 rfl rfl)
theorem dX3_inspects_350 : decode cX3_inspects 350 = .ok (.bipush 113, 2) := dk_16 113 (dk_at dksX3_inspects_15 3 rfl rfl)
theorem dX3_inspects_352 : decode cX3_inspects 352 = .ok (.iload_n 2, 1) := dk_28 (dk_at dksX3_inspects_15 5 rfl rfl)
theorem dX3_inspects_353 : decode cX3_inspects 353 = .ok (.iadd, 1) := dk_96 (dk_at dksX3_inspects_15 6 rfl rfl)
theorem dX3_inspects_354 : decode cX3_inspects 354 = .ok (.iaload, 1) := dk_46 (dk_at dksX3_inspects_15 7 rfl rfl)
theorem dX3_inspects_355 : decode cX3_inspects 355 = .ok (.iadd, 1) := dk_96 (dk_at dksX3_inspects_15 8 rfl rfl)
theorem dX3_inspects_356 : decode cX3_inspects 356 = .ok (.iconst 4, 1) := dk_7 (dk_at dksX3_inspects_15 9 rfl rfl)
theorem dX3_inspects_357 : decode cX3_inspects 357 = .ok (.irem, 1) := dk_112 (dk_at dksX3_inspects_15 10 rfl rfl)
theorem dX3_inspects_358 : decode cX3_inspects 358 = .ok (.ifCond .ne 7, 3) := dk_154 0 7 (dk_at dksX3_inspects_15 11 rfl rfl)
theorem dX3_inspects_361 : decode cX3_inspects 361 = .ok (.iconst 1, 1) := dk_4 (dk_at dksX3_inspects_15 14 rfl rfl)
theorem dX3_inspects_362 : decode cX3_inspects 362 = .ok (.goto 4, 3) := dk_167 0 4 (dk_at dksX3_inspects_15 15 rfl rfl)
theorem dX3_inspects_365 : decode cX3_inspects 365 = .ok (.iconst 0, 1) := dk_3 (dk_at dksX3_inspects_15 18 rfl rfl)
theorem dX3_inspects_366 : decode cX3_inspects 366 = .ok (.iadd, 1) := dk_96 (dk_at dksX3_inspects_15 19 rfl rfl)
theorem dX3_inspects_367 : decode cX3_inspects 367 = .ok (.iastore, 1) := dk_79 (dk_at dksX3_inspects_15 20 rfl rfl)
theorem dX3_inspects_368 : decode cX3_inspects 368 = .ok (.aload_n 0, 1) := dk_42 (dk_at dksX3_inspects_15 21 rfl rfl)
theorem dX3_inspects_369 : decode cX3_inspects 369 = .ok (.getfield 7, 3) := dk_180 0 7 (dk_at dksX3_inspects_16 0 rfl rfl)
theorem dX3_inspects_372 : decode cX3_inspects 372 = .ok (.iconst 3, 1) := dk_6 (dk_at dksX3_inspects_16 3 rfl rfl)
theorem dX3_inspects_373 : decode cX3_inspects 373 = .ok (.dup2, 1) := dk_92 (dk_at dksX3_inspects_16 4 rfl rfl)
theorem dX3_inspects_374 : decode cX3_inspects 374 = .ok (.iaload, 1) := dk_46 (dk_at dksX3_inspects_16 5 rfl rfl)
theorem dX3_inspects_375 : decode cX3_inspects 375 = .ok (.iconst 1, 1) := dk_4 (dk_at dksX3_inspects_16 6 rfl rfl)
theorem dX3_inspects_376 : decode cX3_inspects 376 = .ok (.iadd, 1) := dk_96 (dk_at dksX3_inspects_16 7 rfl rfl)
theorem dX3_inspects_377 : decode cX3_inspects 377 = .ok (.iastore, 1) := dk_79 (dk_at dksX3_inspects_16 8 rfl rfl)
theorem dX3_inspects_378 : decode cX3_inspects 378 = .ok (.aload_n 0, 1) := dk_42 (dk_at dksX3_inspects_16 9 rfl rfl)
theorem dX3_inspects_379 : decode cX3_inspects 379 = .ok (.iload 4, 2) := dk_21 4 (dk_at dksX3_inspects_16 10 rfl rfl)
theorem dX3_inspects_381 : decode cX3_inspects 381 = .ok (.invokevirtual 101, 3) := dk_182 0 101 (dk_at dksX3_inspects_16 12 rfl rfl)
theorem dX3_inspects_384 : decode cX3_inspects 384 = .ok (.ireturn, 1) := dk_172 (dk_at dksX3_inspects_16 15 rfl rfl)
abbrev cX3_fineBy : ByteArray := prog_20_method_21_code
def yX3_fineBy : MethodName := ⟨RX3, "fineBy", "(II)I"⟩
def dkwX3_fineBy_3 : List UInt8 := [54, 6, 21, 4, 21, 5, 21, 6, 96, 104, 172]
abbrev dktX3_fineBy_3 : List UInt8 := dkwX3_fineBy_3 ++ []
def dkwX3_fineBy_2 : List UInt8 := [16, 75, 27, 96, 46, 5, 164, 0, 17, 42, 180, 0, 7, 16, 75, 27, 96, 46, 5, 100, 167, 0, 4, 3]
abbrev dktX3_fineBy_2 : List UInt8 := dkwX3_fineBy_2 ++ dktX3_fineBy_3
def dkwX3_fineBy_1 : List UInt8 := [54, 4, 29, 7, 164, 0, 13, 29, 16, 9, 96, 16, 10, 108, 167, 0, 4, 3, 54, 5, 42, 180, 0, 7]
abbrev dktX3_fineBy_1 : List UInt8 := dkwX3_fineBy_1 ++ dktX3_fineBy_2
def dkwX3_fineBy_0 : List UInt8 := [42, 27, 28, 182, 0, 92, 62, 42, 180, 0, 7, 8, 42, 180, 0, 7, 16, 15, 27, 96, 46, 96, 46]
abbrev dktX3_fineBy_0 : List UInt8 := dkwX3_fineBy_0 ++ dktX3_fineBy_1
theorem dksX3_fineBy_0 : cX3_fineBy.data.toList.drop 0 = dktX3_fineBy_0 := by decide +kernel
theorem dksX3_fineBy_1 : cX3_fineBy.data.toList.drop 23 = dktX3_fineBy_1 := dk_seg dksX3_fineBy_0 23 rfl rfl
theorem dksX3_fineBy_2 : cX3_fineBy.data.toList.drop 47 = dktX3_fineBy_2 := dk_seg dksX3_fineBy_1 24 rfl rfl
theorem dksX3_fineBy_3 : cX3_fineBy.data.toList.drop 71 = dktX3_fineBy_3 := dk_seg dksX3_fineBy_2 24 rfl rfl
theorem dX3_fineBy_0 : decode cX3_fineBy 0 = .ok (.aload_n 0, 1) := dk_42 (dk_at dksX3_fineBy_0 0 rfl rfl)
theorem dX3_fineBy_1 : decode cX3_fineBy 1 = .ok (.iload_n 1, 1) := dk_27 (dk_at dksX3_fineBy_0 1 rfl rfl)
theorem dX3_fineBy_2 : decode cX3_fineBy 2 = .ok (.iload_n 2, 1) := dk_28 (dk_at dksX3_fineBy_0 2 rfl rfl)
theorem dX3_fineBy_3 : decode cX3_fineBy 3 = .ok (.invokevirtual 92, 3) := dk_182 0 92 (dk_at dksX3_fineBy_0 3 rfl rfl)
theorem dX3_fineBy_6 : decode cX3_fineBy 6 = .ok (.istore_n 3, 1) := dk_62 (dk_at dksX3_fineBy_0 6 rfl rfl)
theorem dX3_fineBy_7 : decode cX3_fineBy 7 = .ok (.aload_n 0, 1) := dk_42 (dk_at dksX3_fineBy_0 7 rfl rfl)
theorem dX3_fineBy_8 : decode cX3_fineBy 8 = .ok (.getfield 7, 3) := dk_180 0 7 (dk_at dksX3_fineBy_0 8 rfl rfl)
theorem dX3_fineBy_11 : decode cX3_fineBy 11 = .ok (.iconst 5, 1) := dk_8 (dk_at dksX3_fineBy_0 11 rfl rfl)
theorem dX3_fineBy_12 : decode cX3_fineBy 12 = .ok (.aload_n 0, 1) := dk_42 (dk_at dksX3_fineBy_0 12 rfl rfl)
theorem dX3_fineBy_13 : decode cX3_fineBy 13 = .ok (.getfield 7, 3) := dk_180 0 7 (dk_at dksX3_fineBy_0 13 rfl rfl)
theorem dX3_fineBy_16 : decode cX3_fineBy 16 = .ok (.bipush 15, 2) := dk_16 15 (dk_at dksX3_fineBy_0 16 rfl rfl)
theorem dX3_fineBy_18 : decode cX3_fineBy 18 = .ok (.iload_n 1, 1) := dk_27 (dk_at dksX3_fineBy_0 18 rfl rfl)
theorem dX3_fineBy_19 : decode cX3_fineBy 19 = .ok (.iadd, 1) := dk_96 (dk_at dksX3_fineBy_0 19 rfl rfl)
theorem dX3_fineBy_20 : decode cX3_fineBy 20 = .ok (.iaload, 1) := dk_46 (dk_at dksX3_fineBy_0 20 rfl rfl)
theorem dX3_fineBy_21 : decode cX3_fineBy 21 = .ok (.iadd, 1) := dk_96 (dk_at dksX3_fineBy_0 21 rfl rfl)
theorem dX3_fineBy_22 : decode cX3_fineBy 22 = .ok (.iaload, 1) := dk_46 (dk_at dksX3_fineBy_0 22 rfl rfl)
theorem dX3_fineBy_23 : decode cX3_fineBy 23 = .ok (.istore 4, 2) := dk_54 4 (dk_at dksX3_fineBy_1 0 rfl rfl)
theorem dX3_fineBy_25 : decode cX3_fineBy 25 = .ok (.iload_n 3, 1) := dk_29 (dk_at dksX3_fineBy_1 2 rfl rfl)
theorem dX3_fineBy_26 : decode cX3_fineBy 26 = .ok (.iconst 4, 1) := dk_7 (dk_at dksX3_fineBy_1 3 rfl rfl)
theorem dX3_fineBy_27 : decode cX3_fineBy 27 = .ok (.if_icmp .le 13, 3) := dk_164 0 13 (dk_at dksX3_fineBy_1 4 rfl rfl)
theorem dX3_fineBy_30 : decode cX3_fineBy 30 = .ok (.iload_n 3, 1) := dk_29 (dk_at dksX3_fineBy_1 7 rfl rfl)
theorem dX3_fineBy_31 : decode cX3_fineBy 31 = .ok (.bipush 9, 2) := dk_16 9 (dk_at dksX3_fineBy_1 8 rfl rfl)
theorem dX3_fineBy_33 : decode cX3_fineBy 33 = .ok (.iadd, 1) := dk_96 (dk_at dksX3_fineBy_1 10 rfl rfl)
theorem dX3_fineBy_34 : decode cX3_fineBy 34 = .ok (.bipush 10, 2) := dk_16 10 (dk_at dksX3_fineBy_1 11 rfl rfl)
theorem dX3_fineBy_36 : decode cX3_fineBy 36 = .ok (.idiv, 1) := dk_108 (dk_at dksX3_fineBy_1 13 rfl rfl)
theorem dX3_fineBy_37 : decode cX3_fineBy 37 = .ok (.goto 4, 3) := dk_167 0 4 (dk_at dksX3_fineBy_1 14 rfl rfl)
theorem dX3_fineBy_40 : decode cX3_fineBy 40 = .ok (.iconst 0, 1) := dk_3 (dk_at dksX3_fineBy_1 17 rfl rfl)
theorem dX3_fineBy_41 : decode cX3_fineBy 41 = .ok (.istore 5, 2) := dk_54 5 (dk_at dksX3_fineBy_1 18 rfl rfl)
theorem dX3_fineBy_43 : decode cX3_fineBy 43 = .ok (.aload_n 0, 1) := dk_42 (dk_at dksX3_fineBy_1 20 rfl rfl)
theorem dX3_fineBy_44 : decode cX3_fineBy 44 = .ok (.getfield 7, 3) := dk_180 0 7 (dk_at dksX3_fineBy_1 21 rfl rfl)
theorem dX3_fineBy_47 : decode cX3_fineBy 47 = .ok (.bipush 75, 2) := dk_16 75 (dk_at dksX3_fineBy_2 0 rfl rfl)
theorem dX3_fineBy_49 : decode cX3_fineBy 49 = .ok (.iload_n 1, 1) := dk_27 (dk_at dksX3_fineBy_2 2 rfl rfl)
theorem dX3_fineBy_50 : decode cX3_fineBy 50 = .ok (.iadd, 1) := dk_96 (dk_at dksX3_fineBy_2 3 rfl rfl)
theorem dX3_fineBy_51 : decode cX3_fineBy 51 = .ok (.iaload, 1) := dk_46 (dk_at dksX3_fineBy_2 4 rfl rfl)
theorem dX3_fineBy_52 : decode cX3_fineBy 52 = .ok (.iconst 2, 1) := dk_5 (dk_at dksX3_fineBy_2 5 rfl rfl)
theorem dX3_fineBy_53 : decode cX3_fineBy 53 = .ok (.if_icmp .le 17, 3) := dk_164 0 17 (dk_at dksX3_fineBy_2 6 rfl rfl)
theorem dX3_fineBy_56 : decode cX3_fineBy 56 = .ok (.aload_n 0, 1) := dk_42 (dk_at dksX3_fineBy_2 9 rfl rfl)
theorem dX3_fineBy_57 : decode cX3_fineBy 57 = .ok (.getfield 7, 3) := dk_180 0 7 (dk_at dksX3_fineBy_2 10 rfl rfl)
theorem dX3_fineBy_60 : decode cX3_fineBy 60 = .ok (.bipush 75, 2) := dk_16 75 (dk_at dksX3_fineBy_2 13 rfl rfl)
theorem dX3_fineBy_62 : decode cX3_fineBy 62 = .ok (.iload_n 1, 1) := dk_27 (dk_at dksX3_fineBy_2 15 rfl rfl)
theorem dX3_fineBy_63 : decode cX3_fineBy 63 = .ok (.iadd, 1) := dk_96 (dk_at dksX3_fineBy_2 16 rfl rfl)
theorem dX3_fineBy_64 : decode cX3_fineBy 64 = .ok (.iaload, 1) := dk_46 (dk_at dksX3_fineBy_2 17 rfl rfl)
theorem dX3_fineBy_65 : decode cX3_fineBy 65 = .ok (.iconst 2, 1) := dk_5 (dk_at dksX3_fineBy_2 18 rfl rfl)
theorem dX3_fineBy_66 : decode cX3_fineBy 66 = .ok (.isub, 1) := dk_100 (dk_at dksX3_fineBy_2 19 rfl rfl)
theorem dX3_fineBy_67 : decode cX3_fineBy 67 = .ok (.goto 4, 3) := dk_167 0 4 (dk_at dksX3_fineBy_2 20 rfl rfl)
theorem dX3_fineBy_70 : decode cX3_fineBy 70 = .ok (.iconst 0, 1) := dk_3 (dk_at dksX3_fineBy_2 23 rfl rfl)
theorem dX3_fineBy_71 : decode cX3_fineBy 71 = .ok (.istore 6, 2) := dk_54 6 (dk_at dksX3_fineBy_3 0 rfl rfl)
theorem dX3_fineBy_73 : decode cX3_fineBy 73 = .ok (.iload 4, 2) := dk_21 4 (dk_at dksX3_fineBy_3 2 rfl rfl)
theorem dX3_fineBy_75 : decode cX3_fineBy 75 = .ok (.iload 5, 2) := dk_21 5 (dk_at dksX3_fineBy_3 4 rfl rfl)
theorem dX3_fineBy_77 : decode cX3_fineBy 77 = .ok (.iload 6, 2) := dk_21 6 (dk_at dksX3_fineBy_3 6 rfl rfl)
theorem dX3_fineBy_79 : decode cX3_fineBy 79 = .ok (.iadd, 1) := dk_96 (dk_at dksX3_fineBy_3 8 rfl rfl)
theorem dX3_fineBy_80 : decode cX3_fineBy 80 = .ok (.imul, 1) := dk_104 (dk_at dksX3_fineBy_3 9 rfl rfl)
theorem dX3_fineBy_81 : decode cX3_fineBy 81 = .ok (.ireturn, 1) := dk_172 (dk_at dksX3_fineBy_3 10 rfl rfl)
abbrev cX3_fine : ByteArray := prog_20_method_45_code
def yX3_fine : MethodName := ⟨RX3, "fine", "(II)I"⟩
def dkwX3_fine_1 : List UInt8 := [182, 0, 98, 167, 0, 8, 42, 4, 182, 0, 67, 172]
abbrev dktX3_fine_1 : List UInt8 := dkwX3_fine_1 ++ []
def dkwX3_fine_0 : List UInt8 := [42, 3, 181, 0, 41, 42, 27, 182, 0, 116, 153, 0, 20, 42, 28, 182, 0, 131, 153, 0, 12, 42, 27, 28]
abbrev dktX3_fine_0 : List UInt8 := dkwX3_fine_0 ++ dktX3_fine_1
theorem dksX3_fine_0 : cX3_fine.data.toList.drop 0 = dktX3_fine_0 := by decide +kernel
theorem dksX3_fine_1 : cX3_fine.data.toList.drop 24 = dktX3_fine_1 := dk_seg dksX3_fine_0 24 rfl rfl
theorem dX3_fine_0 : decode cX3_fine 0 = .ok (.aload_n 0, 1) := dk_42 (dk_at dksX3_fine_0 0 rfl rfl)
theorem dX3_fine_1 : decode cX3_fine 1 = .ok (.iconst 0, 1) := dk_3 (dk_at dksX3_fine_0 1 rfl rfl)
theorem dX3_fine_2 : decode cX3_fine 2 = .ok (.putfield 41, 3) := dk_181 0 41 (dk_at dksX3_fine_0 2 rfl rfl)
theorem dX3_fine_5 : decode cX3_fine 5 = .ok (.aload_n 0, 1) := dk_42 (dk_at dksX3_fine_0 5 rfl rfl)
theorem dX3_fine_6 : decode cX3_fine 6 = .ok (.iload_n 1, 1) := dk_27 (dk_at dksX3_fine_0 6 rfl rfl)
theorem dX3_fine_7 : decode cX3_fine 7 = .ok (.invokevirtual 116, 3) := dk_182 0 116 (dk_at dksX3_fine_0 7 rfl rfl)
theorem dX3_fine_10 : decode cX3_fine 10 = .ok (.ifCond .eq 20, 3) := dk_153 0 20 (dk_at dksX3_fine_0 10 rfl rfl)
theorem dX3_fine_13 : decode cX3_fine 13 = .ok (.aload_n 0, 1) := dk_42 (dk_at dksX3_fine_0 13 rfl rfl)
theorem dX3_fine_14 : decode cX3_fine 14 = .ok (.iload_n 2, 1) := dk_28 (dk_at dksX3_fine_0 14 rfl rfl)
theorem dX3_fine_15 : decode cX3_fine 15 = .ok (.invokevirtual 131, 3) := dk_182 0 131 (dk_at dksX3_fine_0 15 rfl rfl)
theorem dX3_fine_18 : decode cX3_fine 18 = .ok (.ifCond .eq 12, 3) := dk_153 0 12 (dk_at dksX3_fine_0 18 rfl rfl)
theorem dX3_fine_21 : decode cX3_fine 21 = .ok (.aload_n 0, 1) := dk_42 (dk_at dksX3_fine_0 21 rfl rfl)
theorem dX3_fine_22 : decode cX3_fine 22 = .ok (.iload_n 1, 1) := dk_27 (dk_at dksX3_fine_0 22 rfl rfl)
theorem dX3_fine_23 : decode cX3_fine 23 = .ok (.iload_n 2, 1) := dk_28 (dk_at dksX3_fine_0 23 rfl rfl)
theorem dX3_fine_24 : decode cX3_fine 24 = .ok (.invokevirtual 98, 3) := dk_182 0 98 (dk_at dksX3_fine_1 0 rfl rfl)
theorem dX3_fine_27 : decode cX3_fine 27 = .ok (.goto 8, 3) := dk_167 0 8 (dk_at dksX3_fine_1 3 rfl rfl)
theorem dX3_fine_30 : decode cX3_fine 30 = .ok (.aload_n 0, 1) := dk_42 (dk_at dksX3_fine_1 6 rfl rfl)
theorem dX3_fine_31 : decode cX3_fine 31 = .ok (.iconst 1, 1) := dk_4 (dk_at dksX3_fine_1 7 rfl rfl)
theorem dX3_fine_32 : decode cX3_fine 32 = .ok (.invokevirtual 67, 3) := dk_182 0 67 (dk_at dksX3_fine_1 8 rfl rfl)
theorem dX3_fine_35 : decode cX3_fine 35 = .ok (.ireturn, 1) := dk_172 (dk_at dksX3_fine_1 11 rfl rfl)
abbrev cX3_mend : ByteArray := prog_20_method_46_code
def yX3_mend : MethodName := ⟨RX3, "mend", "(I)I"⟩
def dkwX3_mend_1 : List UInt8 := [182, 0, 113, 167, 0, 8, 42, 4, 182, 0, 67, 172]
abbrev dktX3_mend_1 : List UInt8 := dkwX3_mend_1 ++ []
def dkwX3_mend_0 : List UInt8 := [42, 3, 181, 0, 41, 42, 182, 0, 107, 42, 27, 182, 0, 116, 153, 0, 16, 42, 42, 27, 182, 0, 137, 5]
abbrev dktX3_mend_0 : List UInt8 := dkwX3_mend_0 ++ dktX3_mend_1
theorem dksX3_mend_0 : cX3_mend.data.toList.drop 0 = dktX3_mend_0 := by decide +kernel
theorem dksX3_mend_1 : cX3_mend.data.toList.drop 24 = dktX3_mend_1 := dk_seg dksX3_mend_0 24 rfl rfl
theorem dX3_mend_0 : decode cX3_mend 0 = .ok (.aload_n 0, 1) := dk_42 (dk_at dksX3_mend_0 0 rfl rfl)
theorem dX3_mend_1 : decode cX3_mend 1 = .ok (.iconst 0, 1) := dk_3 (dk_at dksX3_mend_0 1 rfl rfl)
theorem dX3_mend_2 : decode cX3_mend 2 = .ok (.putfield 41, 3) := dk_181 0 41 (dk_at dksX3_mend_0 2 rfl rfl)
theorem dX3_mend_5 : decode cX3_mend 5 = .ok (.aload_n 0, 1) := dk_42 (dk_at dksX3_mend_0 5 rfl rfl)
theorem dX3_mend_6 : decode cX3_mend 6 = .ok (.invokevirtual 107, 3) := dk_182 0 107 (dk_at dksX3_mend_0 6 rfl rfl)
theorem dX3_mend_9 : decode cX3_mend 9 = .ok (.aload_n 0, 1) := dk_42 (dk_at dksX3_mend_0 9 rfl rfl)
theorem dX3_mend_10 : decode cX3_mend 10 = .ok (.iload_n 1, 1) := dk_27 (dk_at dksX3_mend_0 10 rfl rfl)
theorem dX3_mend_11 : decode cX3_mend 11 = .ok (.invokevirtual 116, 3) := dk_182 0 116 (dk_at dksX3_mend_0 11 rfl rfl)
theorem dX3_mend_14 : decode cX3_mend 14 = .ok (.ifCond .eq 16, 3) := dk_153 0 16 (dk_at dksX3_mend_0 14 rfl rfl)
theorem dX3_mend_17 : decode cX3_mend 17 = .ok (.aload_n 0, 1) := dk_42 (dk_at dksX3_mend_0 17 rfl rfl)
theorem dX3_mend_18 : decode cX3_mend 18 = .ok (.aload_n 0, 1) := dk_42 (dk_at dksX3_mend_0 18 rfl rfl)
theorem dX3_mend_19 : decode cX3_mend 19 = .ok (.iload_n 1, 1) := dk_27 (dk_at dksX3_mend_0 19 rfl rfl)
theorem dX3_mend_20 : decode cX3_mend 20 = .ok (.invokevirtual 137, 3) := dk_182 0 137 (dk_at dksX3_mend_0 20 rfl rfl)
theorem dX3_mend_23 : decode cX3_mend 23 = .ok (.iconst 2, 1) := dk_5 (dk_at dksX3_mend_0 23 rfl rfl)
theorem dX3_mend_24 : decode cX3_mend 24 = .ok (.invokevirtual 113, 3) := dk_182 0 113 (dk_at dksX3_mend_1 0 rfl rfl)
theorem dX3_mend_27 : decode cX3_mend 27 = .ok (.goto 8, 3) := dk_167 0 8 (dk_at dksX3_mend_1 3 rfl rfl)
theorem dX3_mend_30 : decode cX3_mend 30 = .ok (.aload_n 0, 1) := dk_42 (dk_at dksX3_mend_1 6 rfl rfl)
theorem dX3_mend_31 : decode cX3_mend 31 = .ok (.iconst 1, 1) := dk_4 (dk_at dksX3_mend_1 7 rfl rfl)
theorem dX3_mend_32 : decode cX3_mend 32 = .ok (.invokevirtual 67, 3) := dk_182 0 67 (dk_at dksX3_mend_1 8 rfl rfl)
theorem dX3_mend_35 : decode cX3_mend 35 = .ok (.ireturn, 1) := dk_172 (dk_at dksX3_mend_1 11 rfl rfl)
abbrev cX3_mends : ByteArray := prog_20_method_23_code
def yX3_mends : MethodName := ⟨RX3, "mends", "(I)I"⟩
def dkwX3_mends_4 : List UInt8 := [172]
abbrev dktX3_mends_4 : List UInt8 := dkwX3_mends_4 ++ []
def dkwX3_mends_3 : List UInt8 := [180, 0, 7, 16, 45, 27, 96, 3, 79, 42, 180, 0, 7, 16, 65, 27, 96, 2, 79, 42, 28, 182, 0, 101]
abbrev dktX3_mends_3 : List UInt8 := dkwX3_mends_3 ++ dktX3_mends_4
def dkwX3_mends_2 : List UInt8 := [96, 46, 100, 182, 0, 95, 172, 42, 180, 0, 7, 16, 25, 27, 96, 92, 46, 16, 6, 100, 79, 42]
abbrev dktX3_mends_2 : List UInt8 := dkwX3_mends_2 ++ dktX3_mends_3
def dkwX3_mends_1 : List UInt8 := [180, 0, 7, 16, 25, 27, 96, 46, 16, 6, 162, 0, 21, 42, 8, 16, 6, 42, 180, 0, 7, 16, 25, 27]
abbrev dktX3_mends_1 : List UInt8 := dkwX3_mends_1 ++ dktX3_mends_2
def dkwX3_mends_0 : List UInt8 := [42, 180, 0, 7, 16, 45, 27, 96, 46, 61, 28, 154, 0, 11, 42, 16, 6, 27, 182, 0, 95, 172, 42]
abbrev dktX3_mends_0 : List UInt8 := dkwX3_mends_0 ++ dktX3_mends_1
theorem dksX3_mends_0 : cX3_mends.data.toList.drop 0 = dktX3_mends_0 := by decide +kernel
theorem dksX3_mends_1 : cX3_mends.data.toList.drop 23 = dktX3_mends_1 := dk_seg dksX3_mends_0 23 rfl rfl
theorem dksX3_mends_2 : cX3_mends.data.toList.drop 47 = dktX3_mends_2 := dk_seg dksX3_mends_1 24 rfl rfl
theorem dksX3_mends_3 : cX3_mends.data.toList.drop 69 = dktX3_mends_3 := dk_seg dksX3_mends_2 22 rfl rfl
theorem dksX3_mends_4 : cX3_mends.data.toList.drop 93 = dktX3_mends_4 := dk_seg dksX3_mends_3 24 rfl rfl
theorem dX3_mends_0 : decode cX3_mends 0 = .ok (.aload_n 0, 1) := dk_42 (dk_at dksX3_mends_0 0 rfl rfl)
theorem dX3_mends_1 : decode cX3_mends 1 = .ok (.getfield 7, 3) := dk_180 0 7 (dk_at dksX3_mends_0 1 rfl rfl)
theorem dX3_mends_4 : decode cX3_mends 4 = .ok (.bipush 45, 2) := dk_16 45 (dk_at dksX3_mends_0 4 rfl rfl)
theorem dX3_mends_6 : decode cX3_mends 6 = .ok (.iload_n 1, 1) := dk_27 (dk_at dksX3_mends_0 6 rfl rfl)
theorem dX3_mends_7 : decode cX3_mends 7 = .ok (.iadd, 1) := dk_96 (dk_at dksX3_mends_0 7 rfl rfl)
theorem dX3_mends_8 : decode cX3_mends 8 = .ok (.iaload, 1) := dk_46 (dk_at dksX3_mends_0 8 rfl rfl)
theorem dX3_mends_9 : decode cX3_mends 9 = .ok (.istore_n 2, 1) := dk_61 (dk_at dksX3_mends_0 9 rfl rfl)
theorem dX3_mends_10 : decode cX3_mends 10 = .ok (.iload_n 2, 1) := dk_28 (dk_at dksX3_mends_0 10 rfl rfl)
theorem dX3_mends_11 : decode cX3_mends 11 = .ok (.ifCond .ne 11, 3) := dk_154 0 11 (dk_at dksX3_mends_0 11 rfl rfl)
theorem dX3_mends_14 : decode cX3_mends 14 = .ok (.aload_n 0, 1) := dk_42 (dk_at dksX3_mends_0 14 rfl rfl)
theorem dX3_mends_15 : decode cX3_mends 15 = .ok (.bipush 6, 2) := dk_16 6 (dk_at dksX3_mends_0 15 rfl rfl)
theorem dX3_mends_17 : decode cX3_mends 17 = .ok (.iload_n 1, 1) := dk_27 (dk_at dksX3_mends_0 17 rfl rfl)
theorem dX3_mends_18 : decode cX3_mends 18 = .ok (.invokevirtual 95, 3) := dk_182 0 95 (dk_at dksX3_mends_0 18 rfl rfl)
theorem dX3_mends_21 : decode cX3_mends 21 = .ok (.ireturn, 1) := dk_172 (dk_at dksX3_mends_0 21 rfl rfl)
theorem dX3_mends_22 : decode cX3_mends 22 = .ok (.aload_n 0, 1) := dk_42 (dk_at dksX3_mends_0 22 rfl rfl)
theorem dX3_mends_23 : decode cX3_mends 23 = .ok (.getfield 7, 3) := dk_180 0 7 (dk_at dksX3_mends_1 0 rfl rfl)
theorem dX3_mends_26 : decode cX3_mends 26 = .ok (.bipush 25, 2) := dk_16 25 (dk_at dksX3_mends_1 3 rfl rfl)
theorem dX3_mends_28 : decode cX3_mends 28 = .ok (.iload_n 1, 1) := dk_27 (dk_at dksX3_mends_1 5 rfl rfl)
theorem dX3_mends_29 : decode cX3_mends 29 = .ok (.iadd, 1) := dk_96 (dk_at dksX3_mends_1 6 rfl rfl)
theorem dX3_mends_30 : decode cX3_mends 30 = .ok (.iaload, 1) := dk_46 (dk_at dksX3_mends_1 7 rfl rfl)
theorem dX3_mends_31 : decode cX3_mends 31 = .ok (.bipush 6, 2) := dk_16 6 (dk_at dksX3_mends_1 8 rfl rfl)
theorem dX3_mends_33 : decode cX3_mends 33 = .ok (.if_icmp .ge 21, 3) := dk_162 0 21 (dk_at dksX3_mends_1 10 rfl rfl)
theorem dX3_mends_36 : decode cX3_mends 36 = .ok (.aload_n 0, 1) := dk_42 (dk_at dksX3_mends_1 13 rfl rfl)
theorem dX3_mends_37 : decode cX3_mends 37 = .ok (.iconst 5, 1) := dk_8 (dk_at dksX3_mends_1 14 rfl rfl)
theorem dX3_mends_38 : decode cX3_mends 38 = .ok (.bipush 6, 2) := dk_16 6 (dk_at dksX3_mends_1 15 rfl rfl)
theorem dX3_mends_40 : decode cX3_mends 40 = .ok (.aload_n 0, 1) := dk_42 (dk_at dksX3_mends_1 17 rfl rfl)
theorem dX3_mends_41 : decode cX3_mends 41 = .ok (.getfield 7, 3) := dk_180 0 7 (dk_at dksX3_mends_1 18 rfl rfl)
theorem dX3_mends_44 : decode cX3_mends 44 = .ok (.bipush 25, 2) := dk_16 25 (dk_at dksX3_mends_1 21 rfl rfl)
theorem dX3_mends_46 : decode cX3_mends 46 = .ok (.iload_n 1, 1) := dk_27 (dk_at dksX3_mends_1 23 rfl rfl)
theorem dX3_mends_47 : decode cX3_mends 47 = .ok (.iadd, 1) := dk_96 (dk_at dksX3_mends_2 0 rfl rfl)
theorem dX3_mends_48 : decode cX3_mends 48 = .ok (.iaload, 1) := dk_46 (dk_at dksX3_mends_2 1 rfl rfl)
theorem dX3_mends_49 : decode cX3_mends 49 = .ok (.isub, 1) := dk_100 (dk_at dksX3_mends_2 2 rfl rfl)
theorem dX3_mends_50 : decode cX3_mends 50 = .ok (.invokevirtual 95, 3) := dk_182 0 95 (dk_at dksX3_mends_2 3 rfl rfl)
theorem dX3_mends_53 : decode cX3_mends 53 = .ok (.ireturn, 1) := dk_172 (dk_at dksX3_mends_2 6 rfl rfl)
theorem dX3_mends_54 : decode cX3_mends 54 = .ok (.aload_n 0, 1) := dk_42 (dk_at dksX3_mends_2 7 rfl rfl)
theorem dX3_mends_55 : decode cX3_mends 55 = .ok (.getfield 7, 3) := dk_180 0 7 (dk_at dksX3_mends_2 8 rfl rfl)
theorem dX3_mends_58 : decode cX3_mends 58 = .ok (.bipush 25, 2) := dk_16 25 (dk_at dksX3_mends_2 11 rfl rfl)
theorem dX3_mends_60 : decode cX3_mends 60 = .ok (.iload_n 1, 1) := dk_27 (dk_at dksX3_mends_2 13 rfl rfl)
theorem dX3_mends_61 : decode cX3_mends 61 = .ok (.iadd, 1) := dk_96 (dk_at dksX3_mends_2 14 rfl rfl)
theorem dX3_mends_62 : decode cX3_mends 62 = .ok (.dup2, 1) := dk_92 (dk_at dksX3_mends_2 15 rfl rfl)
theorem dX3_mends_63 : decode cX3_mends 63 = .ok (.iaload, 1) := dk_46 (dk_at dksX3_mends_2 16 rfl rfl)
theorem dX3_mends_64 : decode cX3_mends 64 = .ok (.bipush 6, 2) := dk_16 6 (dk_at dksX3_mends_2 17 rfl rfl)
theorem dX3_mends_66 : decode cX3_mends 66 = .ok (.isub, 1) := dk_100 (dk_at dksX3_mends_2 19 rfl rfl)
theorem dX3_mends_67 : decode cX3_mends 67 = .ok (.iastore, 1) := dk_79 (dk_at dksX3_mends_2 20 rfl rfl)
theorem dX3_mends_68 : decode cX3_mends 68 = .ok (.aload_n 0, 1) := dk_42 (dk_at dksX3_mends_2 21 rfl rfl)
theorem dX3_mends_69 : decode cX3_mends 69 = .ok (.getfield 7, 3) := dk_180 0 7 (dk_at dksX3_mends_3 0 rfl rfl)
theorem dX3_mends_72 : decode cX3_mends 72 = .ok (.bipush 45, 2) := dk_16 45 (dk_at dksX3_mends_3 3 rfl rfl)
theorem dX3_mends_74 : decode cX3_mends 74 = .ok (.iload_n 1, 1) := dk_27 (dk_at dksX3_mends_3 5 rfl rfl)
theorem dX3_mends_75 : decode cX3_mends 75 = .ok (.iadd, 1) := dk_96 (dk_at dksX3_mends_3 6 rfl rfl)
theorem dX3_mends_76 : decode cX3_mends 76 = .ok (.iconst 0, 1) := dk_3 (dk_at dksX3_mends_3 7 rfl rfl)
theorem dX3_mends_77 : decode cX3_mends 77 = .ok (.iastore, 1) := dk_79 (dk_at dksX3_mends_3 8 rfl rfl)
theorem dX3_mends_78 : decode cX3_mends 78 = .ok (.aload_n 0, 1) := dk_42 (dk_at dksX3_mends_3 9 rfl rfl)
theorem dX3_mends_79 : decode cX3_mends 79 = .ok (.getfield 7, 3) := dk_180 0 7 (dk_at dksX3_mends_3 10 rfl rfl)
theorem dX3_mends_82 : decode cX3_mends 82 = .ok (.bipush 65, 2) := dk_16 65 (dk_at dksX3_mends_3 13 rfl rfl)
theorem dX3_mends_84 : decode cX3_mends 84 = .ok (.iload_n 1, 1) := dk_27 (dk_at dksX3_mends_3 15 rfl rfl)
theorem dX3_mends_85 : decode cX3_mends 85 = .ok (.iadd, 1) := dk_96 (dk_at dksX3_mends_3 16 rfl rfl)
theorem dX3_mends_86 : decode cX3_mends 86 = .ok (.iconst (-1), 1) := dk_2 (dk_at dksX3_mends_3 17 rfl rfl)
theorem dX3_mends_87 : decode cX3_mends 87 = .ok (.iastore, 1) := dk_79 (dk_at dksX3_mends_3 18 rfl rfl)
theorem dX3_mends_88 : decode cX3_mends 88 = .ok (.aload_n 0, 1) := dk_42 (dk_at dksX3_mends_3 19 rfl rfl)
theorem dX3_mends_89 : decode cX3_mends 89 = .ok (.iload_n 2, 1) := dk_28 (dk_at dksX3_mends_3 20 rfl rfl)
theorem dX3_mends_90 : decode cX3_mends 90 = .ok (.invokevirtual 101, 3) := dk_182 0 101 (dk_at dksX3_mends_3 21 rfl rfl)
theorem dX3_mends_93 : decode cX3_mends 93 = .ok (.ireturn, 1) := dk_172 (dk_at dksX3_mends_4 0 rfl rfl)
abbrev cX3_shave : ByteArray := prog_20_method_47_code
def yX3_shave : MethodName := ⟨RX3, "shave", "(II)I"⟩
def dkwX3_shave_2 : List UInt8 := [5, 182, 0, 67, 172]
abbrev dktX3_shave_2 : List UInt8 := dkwX3_shave_2 ++ []
def dkwX3_shave_1 : List UInt8 := [4, 16, 9, 184, 0, 70, 153, 0, 17, 42, 42, 27, 28, 182, 0, 140, 6, 182, 0, 113, 167, 0, 8, 42]
abbrev dktX3_shave_1 : List UInt8 := dkwX3_shave_1 ++ dktX3_shave_2
def dkwX3_shave_0 : List UInt8 := [42, 3, 181, 0, 41, 42, 182, 0, 107, 42, 27, 182, 0, 116, 154, 0, 9, 42, 4, 182, 0, 67, 172, 28]
abbrev dktX3_shave_0 : List UInt8 := dkwX3_shave_0 ++ dktX3_shave_1
theorem dksX3_shave_0 : cX3_shave.data.toList.drop 0 = dktX3_shave_0 := by decide +kernel
theorem dksX3_shave_1 : cX3_shave.data.toList.drop 24 = dktX3_shave_1 := dk_seg dksX3_shave_0 24 rfl rfl
theorem dksX3_shave_2 : cX3_shave.data.toList.drop 48 = dktX3_shave_2 := dk_seg dksX3_shave_1 24 rfl rfl
theorem dX3_shave_0 : decode cX3_shave 0 = .ok (.aload_n 0, 1) := dk_42 (dk_at dksX3_shave_0 0 rfl rfl)
theorem dX3_shave_1 : decode cX3_shave 1 = .ok (.iconst 0, 1) := dk_3 (dk_at dksX3_shave_0 1 rfl rfl)
theorem dX3_shave_2 : decode cX3_shave 2 = .ok (.putfield 41, 3) := dk_181 0 41 (dk_at dksX3_shave_0 2 rfl rfl)
theorem dX3_shave_5 : decode cX3_shave 5 = .ok (.aload_n 0, 1) := dk_42 (dk_at dksX3_shave_0 5 rfl rfl)
theorem dX3_shave_6 : decode cX3_shave 6 = .ok (.invokevirtual 107, 3) := dk_182 0 107 (dk_at dksX3_shave_0 6 rfl rfl)
theorem dX3_shave_9 : decode cX3_shave 9 = .ok (.aload_n 0, 1) := dk_42 (dk_at dksX3_shave_0 9 rfl rfl)
theorem dX3_shave_10 : decode cX3_shave 10 = .ok (.iload_n 1, 1) := dk_27 (dk_at dksX3_shave_0 10 rfl rfl)
theorem dX3_shave_11 : decode cX3_shave 11 = .ok (.invokevirtual 116, 3) := dk_182 0 116 (dk_at dksX3_shave_0 11 rfl rfl)
theorem dX3_shave_14 : decode cX3_shave 14 = .ok (.ifCond .ne 9, 3) := dk_154 0 9 (dk_at dksX3_shave_0 14 rfl rfl)
theorem dX3_shave_17 : decode cX3_shave 17 = .ok (.aload_n 0, 1) := dk_42 (dk_at dksX3_shave_0 17 rfl rfl)
theorem dX3_shave_18 : decode cX3_shave 18 = .ok (.iconst 1, 1) := dk_4 (dk_at dksX3_shave_0 18 rfl rfl)
theorem dX3_shave_19 : decode cX3_shave 19 = .ok (.invokevirtual 67, 3) := dk_182 0 67 (dk_at dksX3_shave_0 19 rfl rfl)
theorem dX3_shave_22 : decode cX3_shave 22 = .ok (.ireturn, 1) := dk_172 (dk_at dksX3_shave_0 22 rfl rfl)
theorem dX3_shave_23 : decode cX3_shave 23 = .ok (.iload_n 2, 1) := dk_28 (dk_at dksX3_shave_0 23 rfl rfl)
theorem dX3_shave_24 : decode cX3_shave 24 = .ok (.iconst 1, 1) := dk_4 (dk_at dksX3_shave_1 0 rfl rfl)
theorem dX3_shave_25 : decode cX3_shave 25 = .ok (.bipush 9, 2) := dk_16 9 (dk_at dksX3_shave_1 1 rfl rfl)
theorem dX3_shave_27 : decode cX3_shave 27 = .ok (.invokestatic 70, 3) := dk_184 0 70 (dk_at dksX3_shave_1 3 rfl rfl)
theorem dX3_shave_30 : decode cX3_shave 30 = .ok (.ifCond .eq 17, 3) := dk_153 0 17 (dk_at dksX3_shave_1 6 rfl rfl)
theorem dX3_shave_33 : decode cX3_shave 33 = .ok (.aload_n 0, 1) := dk_42 (dk_at dksX3_shave_1 9 rfl rfl)
theorem dX3_shave_34 : decode cX3_shave 34 = .ok (.aload_n 0, 1) := dk_42 (dk_at dksX3_shave_1 10 rfl rfl)
theorem dX3_shave_35 : decode cX3_shave 35 = .ok (.iload_n 1, 1) := dk_27 (dk_at dksX3_shave_1 11 rfl rfl)
theorem dX3_shave_36 : decode cX3_shave 36 = .ok (.iload_n 2, 1) := dk_28 (dk_at dksX3_shave_1 12 rfl rfl)
theorem dX3_shave_37 : decode cX3_shave 37 = .ok (.invokevirtual 140, 3) := dk_182 0 140 (dk_at dksX3_shave_1 13 rfl rfl)
theorem dX3_shave_40 : decode cX3_shave 40 = .ok (.iconst 3, 1) := dk_6 (dk_at dksX3_shave_1 16 rfl rfl)
theorem dX3_shave_41 : decode cX3_shave 41 = .ok (.invokevirtual 113, 3) := dk_182 0 113 (dk_at dksX3_shave_1 17 rfl rfl)
theorem dX3_shave_44 : decode cX3_shave 44 = .ok (.goto 8, 3) := dk_167 0 8 (dk_at dksX3_shave_1 20 rfl rfl)
theorem dX3_shave_47 : decode cX3_shave 47 = .ok (.aload_n 0, 1) := dk_42 (dk_at dksX3_shave_1 23 rfl rfl)
theorem dX3_shave_48 : decode cX3_shave 48 = .ok (.iconst 2, 1) := dk_5 (dk_at dksX3_shave_2 0 rfl rfl)
theorem dX3_shave_49 : decode cX3_shave 49 = .ok (.invokevirtual 67, 3) := dk_182 0 67 (dk_at dksX3_shave_2 1 rfl rfl)
theorem dX3_shave_52 : decode cX3_shave 52 = .ok (.ireturn, 1) := dk_172 (dk_at dksX3_shave_2 4 rfl rfl)
abbrev cX3_shaves : ByteArray := prog_20_method_24_code
def yX3_shaves : MethodName := ⟨RX3, "shaves", "(II)I"⟩
def dkwX3_shaves_4 : List UInt8 := [180, 0, 7, 16, 75, 27, 96, 46, 182, 0, 101, 172]
abbrev dktX3_shaves_4 : List UInt8 := dkwX3_shaves_4 ++ []
def dkwX3_shaves_3 : List UInt8 := [16, 20, 164, 0, 8, 16, 20, 167, 0, 14, 42, 180, 0, 7, 16, 75, 27, 96, 46, 28, 96, 79, 42, 42]
abbrev dktX3_shaves_3 : List UInt8 := dkwX3_shaves_3 ++ dktX3_shaves_4
def dkwX3_shaves_2 : List UInt8 := [182, 0, 95, 172, 42, 180, 0, 7, 16, 75, 27, 96, 42, 180, 0, 7, 16, 75, 27, 96, 46, 28, 96]
abbrev dktX3_shaves_2 : List UInt8 := dkwX3_shaves_2 ++ dktX3_shaves_3
def dkwX3_shaves_1 : List UInt8 := [182, 0, 95, 172, 42, 180, 0, 7, 16, 75, 27, 96, 46, 16, 20, 160, 0, 11, 42, 16, 8, 27]
abbrev dktX3_shaves_1 : List UInt8 := dkwX3_shaves_1 ++ dktX3_shaves_2
def dkwX3_shaves_0 : List UInt8 := [42, 180, 0, 7, 16, 15, 27, 96, 46, 42, 182, 0, 74, 160, 0, 14, 42, 16, 7, 42, 182, 0, 74]
abbrev dktX3_shaves_0 : List UInt8 := dkwX3_shaves_0 ++ dktX3_shaves_1
theorem dksX3_shaves_0 : cX3_shaves.data.toList.drop 0 = dktX3_shaves_0 := by decide +kernel
theorem dksX3_shaves_1 : cX3_shaves.data.toList.drop 23 = dktX3_shaves_1 := dk_seg dksX3_shaves_0 23 rfl rfl
theorem dksX3_shaves_2 : cX3_shaves.data.toList.drop 45 = dktX3_shaves_2 := dk_seg dksX3_shaves_1 22 rfl rfl
theorem dksX3_shaves_3 : cX3_shaves.data.toList.drop 68 = dktX3_shaves_3 := dk_seg dksX3_shaves_2 23 rfl rfl
theorem dksX3_shaves_4 : cX3_shaves.data.toList.drop 92 = dktX3_shaves_4 := dk_seg dksX3_shaves_3 24 rfl rfl
theorem dX3_shaves_0 : decode cX3_shaves 0 = .ok (.aload_n 0, 1) := dk_42 (dk_at dksX3_shaves_0 0 rfl rfl)
theorem dX3_shaves_1 : decode cX3_shaves 1 = .ok (.getfield 7, 3) := dk_180 0 7 (dk_at dksX3_shaves_0 1 rfl rfl)
theorem dX3_shaves_4 : decode cX3_shaves 4 = .ok (.bipush 15, 2) := dk_16 15 (dk_at dksX3_shaves_0 4 rfl rfl)
theorem dX3_shaves_6 : decode cX3_shaves 6 = .ok (.iload_n 1, 1) := dk_27 (dk_at dksX3_shaves_0 6 rfl rfl)
theorem dX3_shaves_7 : decode cX3_shaves 7 = .ok (.iadd, 1) := dk_96 (dk_at dksX3_shaves_0 7 rfl rfl)
theorem dX3_shaves_8 : decode cX3_shaves 8 = .ok (.iaload, 1) := dk_46 (dk_at dksX3_shaves_0 8 rfl rfl)
theorem dX3_shaves_9 : decode cX3_shaves 9 = .ok (.aload_n 0, 1) := dk_42 (dk_at dksX3_shaves_0 9 rfl rfl)
theorem dX3_shaves_10 : decode cX3_shaves 10 = .ok (.invokevirtual 74, 3) := dk_182 0 74 (dk_at dksX3_shaves_0 10 rfl rfl)
theorem dX3_shaves_13 : decode cX3_shaves 13 = .ok (.if_icmp .ne 14, 3) := dk_160 0 14 (dk_at dksX3_shaves_0 13 rfl rfl)
theorem dX3_shaves_16 : decode cX3_shaves 16 = .ok (.aload_n 0, 1) := dk_42 (dk_at dksX3_shaves_0 16 rfl rfl)
theorem dX3_shaves_17 : decode cX3_shaves 17 = .ok (.bipush 7, 2) := dk_16 7 (dk_at dksX3_shaves_0 17 rfl rfl)
theorem dX3_shaves_19 : decode cX3_shaves 19 = .ok (.aload_n 0, 1) := dk_42 (dk_at dksX3_shaves_0 19 rfl rfl)
theorem dX3_shaves_20 : decode cX3_shaves 20 = .ok (.invokevirtual 74, 3) := dk_182 0 74 (dk_at dksX3_shaves_0 20 rfl rfl)
theorem dX3_shaves_23 : decode cX3_shaves 23 = .ok (.invokevirtual 95, 3) := dk_182 0 95 (dk_at dksX3_shaves_1 0 rfl rfl)
theorem dX3_shaves_26 : decode cX3_shaves 26 = .ok (.ireturn, 1) := dk_172 (dk_at dksX3_shaves_1 3 rfl rfl)
theorem dX3_shaves_27 : decode cX3_shaves 27 = .ok (.aload_n 0, 1) := dk_42 (dk_at dksX3_shaves_1 4 rfl rfl)
theorem dX3_shaves_28 : decode cX3_shaves 28 = .ok (.getfield 7, 3) := dk_180 0 7 (dk_at dksX3_shaves_1 5 rfl rfl)
theorem dX3_shaves_31 : decode cX3_shaves 31 = .ok (.bipush 75, 2) := dk_16 75 (dk_at dksX3_shaves_1 8 rfl rfl)
theorem dX3_shaves_33 : decode cX3_shaves 33 = .ok (.iload_n 1, 1) := dk_27 (dk_at dksX3_shaves_1 10 rfl rfl)
theorem dX3_shaves_34 : decode cX3_shaves 34 = .ok (.iadd, 1) := dk_96 (dk_at dksX3_shaves_1 11 rfl rfl)
theorem dX3_shaves_35 : decode cX3_shaves 35 = .ok (.iaload, 1) := dk_46 (dk_at dksX3_shaves_1 12 rfl rfl)
theorem dX3_shaves_36 : decode cX3_shaves 36 = .ok (.bipush 20, 2) := dk_16 20 (dk_at dksX3_shaves_1 13 rfl rfl)
theorem dX3_shaves_38 : decode cX3_shaves 38 = .ok (.if_icmp .ne 11, 3) := dk_160 0 11 (dk_at dksX3_shaves_1 15 rfl rfl)
theorem dX3_shaves_41 : decode cX3_shaves 41 = .ok (.aload_n 0, 1) := dk_42 (dk_at dksX3_shaves_1 18 rfl rfl)
theorem dX3_shaves_42 : decode cX3_shaves 42 = .ok (.bipush 8, 2) := dk_16 8 (dk_at dksX3_shaves_1 19 rfl rfl)
theorem dX3_shaves_44 : decode cX3_shaves 44 = .ok (.iload_n 1, 1) := dk_27 (dk_at dksX3_shaves_1 21 rfl rfl)
theorem dX3_shaves_45 : decode cX3_shaves 45 = .ok (.invokevirtual 95, 3) := dk_182 0 95 (dk_at dksX3_shaves_2 0 rfl rfl)
theorem dX3_shaves_48 : decode cX3_shaves 48 = .ok (.ireturn, 1) := dk_172 (dk_at dksX3_shaves_2 3 rfl rfl)
theorem dX3_shaves_49 : decode cX3_shaves 49 = .ok (.aload_n 0, 1) := dk_42 (dk_at dksX3_shaves_2 4 rfl rfl)
theorem dX3_shaves_50 : decode cX3_shaves 50 = .ok (.getfield 7, 3) := dk_180 0 7 (dk_at dksX3_shaves_2 5 rfl rfl)
theorem dX3_shaves_53 : decode cX3_shaves 53 = .ok (.bipush 75, 2) := dk_16 75 (dk_at dksX3_shaves_2 8 rfl rfl)
theorem dX3_shaves_55 : decode cX3_shaves 55 = .ok (.iload_n 1, 1) := dk_27 (dk_at dksX3_shaves_2 10 rfl rfl)
theorem dX3_shaves_56 : decode cX3_shaves 56 = .ok (.iadd, 1) := dk_96 (dk_at dksX3_shaves_2 11 rfl rfl)
theorem dX3_shaves_57 : decode cX3_shaves 57 = .ok (.aload_n 0, 1) := dk_42 (dk_at dksX3_shaves_2 12 rfl rfl)
theorem dX3_shaves_58 : decode cX3_shaves 58 = .ok (.getfield 7, 3) := dk_180 0 7 (dk_at dksX3_shaves_2 13 rfl rfl)
theorem dX3_shaves_61 : decode cX3_shaves 61 = .ok (.bipush 75, 2) := dk_16 75 (dk_at dksX3_shaves_2 16 rfl rfl)
theorem dX3_shaves_63 : decode cX3_shaves 63 = .ok (.iload_n 1, 1) := dk_27 (dk_at dksX3_shaves_2 18 rfl rfl)
theorem dX3_shaves_64 : decode cX3_shaves 64 = .ok (.iadd, 1) := dk_96 (dk_at dksX3_shaves_2 19 rfl rfl)
theorem dX3_shaves_65 : decode cX3_shaves 65 = .ok (.iaload, 1) := dk_46 (dk_at dksX3_shaves_2 20 rfl rfl)
theorem dX3_shaves_66 : decode cX3_shaves 66 = .ok (.iload_n 2, 1) := dk_28 (dk_at dksX3_shaves_2 21 rfl rfl)
theorem dX3_shaves_67 : decode cX3_shaves 67 = .ok (.iadd, 1) := dk_96 (dk_at dksX3_shaves_2 22 rfl rfl)
theorem dX3_shaves_68 : decode cX3_shaves 68 = .ok (.bipush 20, 2) := dk_16 20 (dk_at dksX3_shaves_3 0 rfl rfl)
theorem dX3_shaves_70 : decode cX3_shaves 70 = .ok (.if_icmp .le 8, 3) := dk_164 0 8 (dk_at dksX3_shaves_3 2 rfl rfl)
theorem dX3_shaves_73 : decode cX3_shaves 73 = .ok (.bipush 20, 2) := dk_16 20 (dk_at dksX3_shaves_3 5 rfl rfl)
theorem dX3_shaves_75 : decode cX3_shaves 75 = .ok (.goto 14, 3) := dk_167 0 14 (dk_at dksX3_shaves_3 7 rfl rfl)
theorem dX3_shaves_78 : decode cX3_shaves 78 = .ok (.aload_n 0, 1) := dk_42 (dk_at dksX3_shaves_3 10 rfl rfl)
theorem dX3_shaves_79 : decode cX3_shaves 79 = .ok (.getfield 7, 3) := dk_180 0 7 (dk_at dksX3_shaves_3 11 rfl rfl)
theorem dX3_shaves_82 : decode cX3_shaves 82 = .ok (.bipush 75, 2) := dk_16 75 (dk_at dksX3_shaves_3 14 rfl rfl)
theorem dX3_shaves_84 : decode cX3_shaves 84 = .ok (.iload_n 1, 1) := dk_27 (dk_at dksX3_shaves_3 16 rfl rfl)
theorem dX3_shaves_85 : decode cX3_shaves 85 = .ok (.iadd, 1) := dk_96 (dk_at dksX3_shaves_3 17 rfl rfl)
theorem dX3_shaves_86 : decode cX3_shaves 86 = .ok (.iaload, 1) := dk_46 (dk_at dksX3_shaves_3 18 rfl rfl)
theorem dX3_shaves_87 : decode cX3_shaves 87 = .ok (.iload_n 2, 1) := dk_28 (dk_at dksX3_shaves_3 19 rfl rfl)
theorem dX3_shaves_88 : decode cX3_shaves 88 = .ok (.iadd, 1) := dk_96 (dk_at dksX3_shaves_3 20 rfl rfl)
theorem dX3_shaves_89 : decode cX3_shaves 89 = .ok (.iastore, 1) := dk_79 (dk_at dksX3_shaves_3 21 rfl rfl)
theorem dX3_shaves_90 : decode cX3_shaves 90 = .ok (.aload_n 0, 1) := dk_42 (dk_at dksX3_shaves_3 22 rfl rfl)
theorem dX3_shaves_91 : decode cX3_shaves 91 = .ok (.aload_n 0, 1) := dk_42 (dk_at dksX3_shaves_3 23 rfl rfl)
theorem dX3_shaves_92 : decode cX3_shaves 92 = .ok (.getfield 7, 3) := dk_180 0 7 (dk_at dksX3_shaves_4 0 rfl rfl)
theorem dX3_shaves_95 : decode cX3_shaves 95 = .ok (.bipush 75, 2) := dk_16 75 (dk_at dksX3_shaves_4 3 rfl rfl)
theorem dX3_shaves_97 : decode cX3_shaves 97 = .ok (.iload_n 1, 1) := dk_27 (dk_at dksX3_shaves_4 5 rfl rfl)
theorem dX3_shaves_98 : decode cX3_shaves 98 = .ok (.iadd, 1) := dk_96 (dk_at dksX3_shaves_4 6 rfl rfl)
theorem dX3_shaves_99 : decode cX3_shaves 99 = .ok (.iaload, 1) := dk_46 (dk_at dksX3_shaves_4 7 rfl rfl)
theorem dX3_shaves_100 : decode cX3_shaves 100 = .ok (.invokevirtual 101, 3) := dk_182 0 101 (dk_at dksX3_shaves_4 8 rfl rfl)
theorem dX3_shaves_103 : decode cX3_shaves 103 = .ok (.ireturn, 1) := dk_172 (dk_at dksX3_shaves_4 11 rfl rfl)
abbrev cX3_pay : ByteArray := prog_20_method_48_code
def yX3_pay : MethodName := ⟨RX3, "pay", "(II)I"⟩
def dkwX3_pay_2 : List UInt8 := [5, 182, 0, 67, 172]
abbrev dktX3_pay_2 : List UInt8 := dkwX3_pay_2 ++ []
def dkwX3_pay_1 : List UInt8 := [4, 16, 99, 184, 0, 70, 153, 0, 17, 42, 42, 27, 28, 182, 0, 143, 6, 182, 0, 113, 167, 0, 8, 42]
abbrev dktX3_pay_1 : List UInt8 := dkwX3_pay_1 ++ dktX3_pay_2
def dkwX3_pay_0 : List UInt8 := [42, 3, 181, 0, 41, 42, 182, 0, 107, 42, 27, 182, 0, 116, 154, 0, 9, 42, 4, 182, 0, 67, 172, 28]
abbrev dktX3_pay_0 : List UInt8 := dkwX3_pay_0 ++ dktX3_pay_1
theorem dksX3_pay_0 : cX3_pay.data.toList.drop 0 = dktX3_pay_0 := by decide +kernel
theorem dksX3_pay_1 : cX3_pay.data.toList.drop 24 = dktX3_pay_1 := dk_seg dksX3_pay_0 24 rfl rfl
theorem dksX3_pay_2 : cX3_pay.data.toList.drop 48 = dktX3_pay_2 := dk_seg dksX3_pay_1 24 rfl rfl
theorem dX3_pay_0 : decode cX3_pay 0 = .ok (.aload_n 0, 1) := dk_42 (dk_at dksX3_pay_0 0 rfl rfl)
theorem dX3_pay_1 : decode cX3_pay 1 = .ok (.iconst 0, 1) := dk_3 (dk_at dksX3_pay_0 1 rfl rfl)
theorem dX3_pay_2 : decode cX3_pay 2 = .ok (.putfield 41, 3) := dk_181 0 41 (dk_at dksX3_pay_0 2 rfl rfl)
theorem dX3_pay_5 : decode cX3_pay 5 = .ok (.aload_n 0, 1) := dk_42 (dk_at dksX3_pay_0 5 rfl rfl)
theorem dX3_pay_6 : decode cX3_pay 6 = .ok (.invokevirtual 107, 3) := dk_182 0 107 (dk_at dksX3_pay_0 6 rfl rfl)
theorem dX3_pay_9 : decode cX3_pay 9 = .ok (.aload_n 0, 1) := dk_42 (dk_at dksX3_pay_0 9 rfl rfl)
theorem dX3_pay_10 : decode cX3_pay 10 = .ok (.iload_n 1, 1) := dk_27 (dk_at dksX3_pay_0 10 rfl rfl)
theorem dX3_pay_11 : decode cX3_pay 11 = .ok (.invokevirtual 116, 3) := dk_182 0 116 (dk_at dksX3_pay_0 11 rfl rfl)
theorem dX3_pay_14 : decode cX3_pay 14 = .ok (.ifCond .ne 9, 3) := dk_154 0 9 (dk_at dksX3_pay_0 14 rfl rfl)
theorem dX3_pay_17 : decode cX3_pay 17 = .ok (.aload_n 0, 1) := dk_42 (dk_at dksX3_pay_0 17 rfl rfl)
theorem dX3_pay_18 : decode cX3_pay 18 = .ok (.iconst 1, 1) := dk_4 (dk_at dksX3_pay_0 18 rfl rfl)
theorem dX3_pay_19 : decode cX3_pay 19 = .ok (.invokevirtual 67, 3) := dk_182 0 67 (dk_at dksX3_pay_0 19 rfl rfl)
theorem dX3_pay_22 : decode cX3_pay 22 = .ok (.ireturn, 1) := dk_172 (dk_at dksX3_pay_0 22 rfl rfl)
theorem dX3_pay_23 : decode cX3_pay 23 = .ok (.iload_n 2, 1) := dk_28 (dk_at dksX3_pay_0 23 rfl rfl)
theorem dX3_pay_24 : decode cX3_pay 24 = .ok (.iconst 1, 1) := dk_4 (dk_at dksX3_pay_1 0 rfl rfl)
theorem dX3_pay_25 : decode cX3_pay 25 = .ok (.bipush 99, 2) := dk_16 99 (dk_at dksX3_pay_1 1 rfl rfl)
theorem dX3_pay_27 : decode cX3_pay 27 = .ok (.invokestatic 70, 3) := dk_184 0 70 (dk_at dksX3_pay_1 3 rfl rfl)
theorem dX3_pay_30 : decode cX3_pay 30 = .ok (.ifCond .eq 17, 3) := dk_153 0 17 (dk_at dksX3_pay_1 6 rfl rfl)
theorem dX3_pay_33 : decode cX3_pay 33 = .ok (.aload_n 0, 1) := dk_42 (dk_at dksX3_pay_1 9 rfl rfl)
theorem dX3_pay_34 : decode cX3_pay 34 = .ok (.aload_n 0, 1) := dk_42 (dk_at dksX3_pay_1 10 rfl rfl)
theorem dX3_pay_35 : decode cX3_pay 35 = .ok (.iload_n 1, 1) := dk_27 (dk_at dksX3_pay_1 11 rfl rfl)
theorem dX3_pay_36 : decode cX3_pay 36 = .ok (.iload_n 2, 1) := dk_28 (dk_at dksX3_pay_1 12 rfl rfl)
theorem dX3_pay_37 : decode cX3_pay 37 = .ok (.invokevirtual 143, 3) := dk_182 0 143 (dk_at dksX3_pay_1 13 rfl rfl)
theorem dX3_pay_40 : decode cX3_pay 40 = .ok (.iconst 3, 1) := dk_6 (dk_at dksX3_pay_1 16 rfl rfl)
theorem dX3_pay_41 : decode cX3_pay 41 = .ok (.invokevirtual 113, 3) := dk_182 0 113 (dk_at dksX3_pay_1 17 rfl rfl)
theorem dX3_pay_44 : decode cX3_pay 44 = .ok (.goto 8, 3) := dk_167 0 8 (dk_at dksX3_pay_1 20 rfl rfl)
theorem dX3_pay_47 : decode cX3_pay 47 = .ok (.aload_n 0, 1) := dk_42 (dk_at dksX3_pay_1 23 rfl rfl)
theorem dX3_pay_48 : decode cX3_pay 48 = .ok (.iconst 2, 1) := dk_5 (dk_at dksX3_pay_2 0 rfl rfl)
theorem dX3_pay_49 : decode cX3_pay 49 = .ok (.invokevirtual 67, 3) := dk_182 0 67 (dk_at dksX3_pay_2 1 rfl rfl)
theorem dX3_pay_52 : decode cX3_pay 52 = .ok (.ireturn, 1) := dk_172 (dk_at dksX3_pay_2 4 rfl rfl)
abbrev cX3_pays : ByteArray := prog_20_method_26_code
def yX3_pays : MethodName := ⟨RX3, "pays", "(II)I"⟩
def dkwX3_pays_4 : List UInt8 := [16, 35, 27, 96, 92, 46, 29, 100, 79, 42, 42, 180, 0, 7, 16, 35, 27, 96, 46, 182, 0, 101, 172]
abbrev dktX3_pays_4 : List UInt8 := dkwX3_pays_4 ++ []
def dkwX3_pays_3 : List UInt8 := [96, 46, 100, 182, 0, 95, 172, 42, 180, 0, 7, 16, 25, 27, 96, 92, 46, 29, 100, 79, 42, 180, 0, 7]
abbrev dktX3_pays_3 : List UInt8 := dkwX3_pays_3 ++ dktX3_pays_4
def dkwX3_pays_2 : List UInt8 := [62, 42, 180, 0, 7, 16, 25, 27, 96, 46, 29, 162, 0, 20, 42, 8, 29, 42, 180, 0, 7, 16, 25, 27]
abbrev dktX3_pays_2 : List UInt8 := dkwX3_pays_2 ++ dktX3_pays_3
def dkwX3_pays_1 : List UInt8 := [180, 0, 7, 16, 35, 27, 96, 46, 162, 0, 7, 28, 167, 0, 12, 42, 180, 0, 7, 16, 35, 27, 96, 46]
abbrev dktX3_pays_1 : List UInt8 := dkwX3_pays_1 ++ dktX3_pays_2
def dkwX3_pays_0 : List UInt8 := [42, 180, 0, 7, 16, 35, 27, 96, 46, 154, 0, 11, 42, 16, 9, 27, 182, 0, 95, 172, 28, 42]
abbrev dktX3_pays_0 : List UInt8 := dkwX3_pays_0 ++ dktX3_pays_1
theorem dksX3_pays_0 : cX3_pays.data.toList.drop 0 = dktX3_pays_0 := by decide +kernel
theorem dksX3_pays_1 : cX3_pays.data.toList.drop 22 = dktX3_pays_1 := dk_seg dksX3_pays_0 22 rfl rfl
theorem dksX3_pays_2 : cX3_pays.data.toList.drop 46 = dktX3_pays_2 := dk_seg dksX3_pays_1 24 rfl rfl
theorem dksX3_pays_3 : cX3_pays.data.toList.drop 70 = dktX3_pays_3 := dk_seg dksX3_pays_2 24 rfl rfl
theorem dksX3_pays_4 : cX3_pays.data.toList.drop 94 = dktX3_pays_4 := dk_seg dksX3_pays_3 24 rfl rfl
theorem dX3_pays_0 : decode cX3_pays 0 = .ok (.aload_n 0, 1) := dk_42 (dk_at dksX3_pays_0 0 rfl rfl)
theorem dX3_pays_1 : decode cX3_pays 1 = .ok (.getfield 7, 3) := dk_180 0 7 (dk_at dksX3_pays_0 1 rfl rfl)
theorem dX3_pays_4 : decode cX3_pays 4 = .ok (.bipush 35, 2) := dk_16 35 (dk_at dksX3_pays_0 4 rfl rfl)
theorem dX3_pays_6 : decode cX3_pays 6 = .ok (.iload_n 1, 1) := dk_27 (dk_at dksX3_pays_0 6 rfl rfl)
theorem dX3_pays_7 : decode cX3_pays 7 = .ok (.iadd, 1) := dk_96 (dk_at dksX3_pays_0 7 rfl rfl)
theorem dX3_pays_8 : decode cX3_pays 8 = .ok (.iaload, 1) := dk_46 (dk_at dksX3_pays_0 8 rfl rfl)
theorem dX3_pays_9 : decode cX3_pays 9 = .ok (.ifCond .ne 11, 3) := dk_154 0 11 (dk_at dksX3_pays_0 9 rfl rfl)
theorem dX3_pays_12 : decode cX3_pays 12 = .ok (.aload_n 0, 1) := dk_42 (dk_at dksX3_pays_0 12 rfl rfl)
theorem dX3_pays_13 : decode cX3_pays 13 = .ok (.bipush 9, 2) := dk_16 9 (dk_at dksX3_pays_0 13 rfl rfl)
theorem dX3_pays_15 : decode cX3_pays 15 = .ok (.iload_n 1, 1) := dk_27 (dk_at dksX3_pays_0 15 rfl rfl)
theorem dX3_pays_16 : decode cX3_pays 16 = .ok (.invokevirtual 95, 3) := dk_182 0 95 (dk_at dksX3_pays_0 16 rfl rfl)
theorem dX3_pays_19 : decode cX3_pays 19 = .ok (.ireturn, 1) := dk_172 (dk_at dksX3_pays_0 19 rfl rfl)
theorem dX3_pays_20 : decode cX3_pays 20 = .ok (.iload_n 2, 1) := dk_28 (dk_at dksX3_pays_0 20 rfl rfl)
theorem dX3_pays_21 : decode cX3_pays 21 = .ok (.aload_n 0, 1) := dk_42 (dk_at dksX3_pays_0 21 rfl rfl)
theorem dX3_pays_22 : decode cX3_pays 22 = .ok (.getfield 7, 3) := dk_180 0 7 (dk_at dksX3_pays_1 0 rfl rfl)
theorem dX3_pays_25 : decode cX3_pays 25 = .ok (.bipush 35, 2) := dk_16 35 (dk_at dksX3_pays_1 3 rfl rfl)
theorem dX3_pays_27 : decode cX3_pays 27 = .ok (.iload_n 1, 1) := dk_27 (dk_at dksX3_pays_1 5 rfl rfl)
theorem dX3_pays_28 : decode cX3_pays 28 = .ok (.iadd, 1) := dk_96 (dk_at dksX3_pays_1 6 rfl rfl)
theorem dX3_pays_29 : decode cX3_pays 29 = .ok (.iaload, 1) := dk_46 (dk_at dksX3_pays_1 7 rfl rfl)
theorem dX3_pays_30 : decode cX3_pays 30 = .ok (.if_icmp .ge 7, 3) := dk_162 0 7 (dk_at dksX3_pays_1 8 rfl rfl)
theorem dX3_pays_33 : decode cX3_pays 33 = .ok (.iload_n 2, 1) := dk_28 (dk_at dksX3_pays_1 11 rfl rfl)
theorem dX3_pays_34 : decode cX3_pays 34 = .ok (.goto 12, 3) := dk_167 0 12 (dk_at dksX3_pays_1 12 rfl rfl)
theorem dX3_pays_37 : decode cX3_pays 37 = .ok (.aload_n 0, 1) := dk_42 (dk_at dksX3_pays_1 15 rfl rfl)
theorem dX3_pays_38 : decode cX3_pays 38 = .ok (.getfield 7, 3) := dk_180 0 7 (dk_at dksX3_pays_1 16 rfl rfl)
theorem dX3_pays_41 : decode cX3_pays 41 = .ok (.bipush 35, 2) := dk_16 35 (dk_at dksX3_pays_1 19 rfl rfl)
theorem dX3_pays_43 : decode cX3_pays 43 = .ok (.iload_n 1, 1) := dk_27 (dk_at dksX3_pays_1 21 rfl rfl)
theorem dX3_pays_44 : decode cX3_pays 44 = .ok (.iadd, 1) := dk_96 (dk_at dksX3_pays_1 22 rfl rfl)
theorem dX3_pays_45 : decode cX3_pays 45 = .ok (.iaload, 1) := dk_46 (dk_at dksX3_pays_1 23 rfl rfl)
theorem dX3_pays_46 : decode cX3_pays 46 = .ok (.istore_n 3, 1) := dk_62 (dk_at dksX3_pays_2 0 rfl rfl)
theorem dX3_pays_47 : decode cX3_pays 47 = .ok (.aload_n 0, 1) := dk_42 (dk_at dksX3_pays_2 1 rfl rfl)
theorem dX3_pays_48 : decode cX3_pays 48 = .ok (.getfield 7, 3) := dk_180 0 7 (dk_at dksX3_pays_2 2 rfl rfl)
theorem dX3_pays_51 : decode cX3_pays 51 = .ok (.bipush 25, 2) := dk_16 25 (dk_at dksX3_pays_2 5 rfl rfl)
theorem dX3_pays_53 : decode cX3_pays 53 = .ok (.iload_n 1, 1) := dk_27 (dk_at dksX3_pays_2 7 rfl rfl)
theorem dX3_pays_54 : decode cX3_pays 54 = .ok (.iadd, 1) := dk_96 (dk_at dksX3_pays_2 8 rfl rfl)
theorem dX3_pays_55 : decode cX3_pays 55 = .ok (.iaload, 1) := dk_46 (dk_at dksX3_pays_2 9 rfl rfl)
theorem dX3_pays_56 : decode cX3_pays 56 = .ok (.iload_n 3, 1) := dk_29 (dk_at dksX3_pays_2 10 rfl rfl)
theorem dX3_pays_57 : decode cX3_pays 57 = .ok (.if_icmp .ge 20, 3) := dk_162 0 20 (dk_at dksX3_pays_2 11 rfl rfl)
theorem dX3_pays_60 : decode cX3_pays 60 = .ok (.aload_n 0, 1) := dk_42 (dk_at dksX3_pays_2 14 rfl rfl)
theorem dX3_pays_61 : decode cX3_pays 61 = .ok (.iconst 5, 1) := dk_8 (dk_at dksX3_pays_2 15 rfl rfl)
theorem dX3_pays_62 : decode cX3_pays 62 = .ok (.iload_n 3, 1) := dk_29 (dk_at dksX3_pays_2 16 rfl rfl)
theorem dX3_pays_63 : decode cX3_pays 63 = .ok (.aload_n 0, 1) := dk_42 (dk_at dksX3_pays_2 17 rfl rfl)
theorem dX3_pays_64 : decode cX3_pays 64 = .ok (.getfield 7, 3) := dk_180 0 7 (dk_at dksX3_pays_2 18 rfl rfl)
theorem dX3_pays_67 : decode cX3_pays 67 = .ok (.bipush 25, 2) := dk_16 25 (dk_at dksX3_pays_2 21 rfl rfl)
theorem dX3_pays_69 : decode cX3_pays 69 = .ok (.iload_n 1, 1) := dk_27 (dk_at dksX3_pays_2 23 rfl rfl)
theorem dX3_pays_70 : decode cX3_pays 70 = .ok (.iadd, 1) := dk_96 (dk_at dksX3_pays_3 0 rfl rfl)
theorem dX3_pays_71 : decode cX3_pays 71 = .ok (.iaload, 1) := dk_46 (dk_at dksX3_pays_3 1 rfl rfl)
theorem dX3_pays_72 : decode cX3_pays 72 = .ok (.isub, 1) := dk_100 (dk_at dksX3_pays_3 2 rfl rfl)
theorem dX3_pays_73 : decode cX3_pays 73 = .ok (.invokevirtual 95, 3) := dk_182 0 95 (dk_at dksX3_pays_3 3 rfl rfl)
theorem dX3_pays_76 : decode cX3_pays 76 = .ok (.ireturn, 1) := dk_172 (dk_at dksX3_pays_3 6 rfl rfl)
theorem dX3_pays_77 : decode cX3_pays 77 = .ok (.aload_n 0, 1) := dk_42 (dk_at dksX3_pays_3 7 rfl rfl)
theorem dX3_pays_78 : decode cX3_pays 78 = .ok (.getfield 7, 3) := dk_180 0 7 (dk_at dksX3_pays_3 8 rfl rfl)
theorem dX3_pays_81 : decode cX3_pays 81 = .ok (.bipush 25, 2) := dk_16 25 (dk_at dksX3_pays_3 11 rfl rfl)
theorem dX3_pays_83 : decode cX3_pays 83 = .ok (.iload_n 1, 1) := dk_27 (dk_at dksX3_pays_3 13 rfl rfl)
theorem dX3_pays_84 : decode cX3_pays 84 = .ok (.iadd, 1) := dk_96 (dk_at dksX3_pays_3 14 rfl rfl)
theorem dX3_pays_85 : decode cX3_pays 85 = .ok (.dup2, 1) := dk_92 (dk_at dksX3_pays_3 15 rfl rfl)
theorem dX3_pays_86 : decode cX3_pays 86 = .ok (.iaload, 1) := dk_46 (dk_at dksX3_pays_3 16 rfl rfl)
theorem dX3_pays_87 : decode cX3_pays 87 = .ok (.iload_n 3, 1) := dk_29 (dk_at dksX3_pays_3 17 rfl rfl)
theorem dX3_pays_88 : decode cX3_pays 88 = .ok (.isub, 1) := dk_100 (dk_at dksX3_pays_3 18 rfl rfl)
theorem dX3_pays_89 : decode cX3_pays 89 = .ok (.iastore, 1) := dk_79 (dk_at dksX3_pays_3 19 rfl rfl)
theorem dX3_pays_90 : decode cX3_pays 90 = .ok (.aload_n 0, 1) := dk_42 (dk_at dksX3_pays_3 20 rfl rfl)
theorem dX3_pays_91 : decode cX3_pays 91 = .ok (.getfield 7, 3) := dk_180 0 7 (dk_at dksX3_pays_3 21 rfl rfl)
theorem dX3_pays_94 : decode cX3_pays 94 = .ok (.bipush 35, 2) := dk_16 35 (dk_at dksX3_pays_4 0 rfl rfl)
theorem dX3_pays_96 : decode cX3_pays 96 = .ok (.iload_n 1, 1) := dk_27 (dk_at dksX3_pays_4 2 rfl rfl)
theorem dX3_pays_97 : decode cX3_pays 97 = .ok (.iadd, 1) := dk_96 (dk_at dksX3_pays_4 3 rfl rfl)
theorem dX3_pays_98 : decode cX3_pays 98 = .ok (.dup2, 1) := dk_92 (dk_at dksX3_pays_4 4 rfl rfl)
theorem dX3_pays_99 : decode cX3_pays 99 = .ok (.iaload, 1) := dk_46 (dk_at dksX3_pays_4 5 rfl rfl)
theorem dX3_pays_100 : decode cX3_pays 100 = .ok (.iload_n 3, 1) := dk_29 (dk_at dksX3_pays_4 6 rfl rfl)
theorem dX3_pays_101 : decode cX3_pays 101 = .ok (.isub, 1) := dk_100 (dk_at dksX3_pays_4 7 rfl rfl)
theorem dX3_pays_102 : decode cX3_pays 102 = .ok (.iastore, 1) := dk_79 (dk_at dksX3_pays_4 8 rfl rfl)
theorem dX3_pays_103 : decode cX3_pays 103 = .ok (.aload_n 0, 1) := dk_42 (dk_at dksX3_pays_4 9 rfl rfl)
theorem dX3_pays_104 : decode cX3_pays 104 = .ok (.aload_n 0, 1) := dk_42 (dk_at dksX3_pays_4 10 rfl rfl)
theorem dX3_pays_105 : decode cX3_pays 105 = .ok (.getfield 7, 3) := dk_180 0 7 (dk_at dksX3_pays_4 11 rfl rfl)
theorem dX3_pays_108 : decode cX3_pays 108 = .ok (.bipush 35, 2) := dk_16 35 (dk_at dksX3_pays_4 14 rfl rfl)
theorem dX3_pays_110 : decode cX3_pays 110 = .ok (.iload_n 1, 1) := dk_27 (dk_at dksX3_pays_4 16 rfl rfl)
theorem dX3_pays_111 : decode cX3_pays 111 = .ok (.iadd, 1) := dk_96 (dk_at dksX3_pays_4 17 rfl rfl)
theorem dX3_pays_112 : decode cX3_pays 112 = .ok (.iaload, 1) := dk_46 (dk_at dksX3_pays_4 18 rfl rfl)
theorem dX3_pays_113 : decode cX3_pays 113 = .ok (.invokevirtual 101, 3) := dk_182 0 101 (dk_at dksX3_pays_4 19 rfl rfl)
theorem dX3_pays_116 : decode cX3_pays 116 = .ok (.ireturn, 1) := dk_172 (dk_at dksX3_pays_4 22 rfl rfl)
abbrev cX3_pass : ByteArray := prog_20_method_49_code
def yX3_pass : MethodName := ⟨RX3, "pass", "(I)I"⟩
def dkwX3_pass_1 : List UInt8 := [182, 0, 146, 5, 182, 0, 113, 167, 0, 8, 42, 4, 182, 0, 67, 172]
abbrev dktX3_pass_1 : List UInt8 := dkwX3_pass_1 ++ []
def dkwX3_pass_0 : List UInt8 := [42, 3, 181, 0, 41, 42, 182, 0, 107, 27, 4, 16, 40, 184, 0, 70, 153, 0, 16, 42, 42, 27]
abbrev dktX3_pass_0 : List UInt8 := dkwX3_pass_0 ++ dktX3_pass_1
theorem dksX3_pass_0 : cX3_pass.data.toList.drop 0 = dktX3_pass_0 := by decide +kernel
theorem dksX3_pass_1 : cX3_pass.data.toList.drop 22 = dktX3_pass_1 := dk_seg dksX3_pass_0 22 rfl rfl
theorem dX3_pass_0 : decode cX3_pass 0 = .ok (.aload_n 0, 1) := dk_42 (dk_at dksX3_pass_0 0 rfl rfl)
theorem dX3_pass_1 : decode cX3_pass 1 = .ok (.iconst 0, 1) := dk_3 (dk_at dksX3_pass_0 1 rfl rfl)
theorem dX3_pass_2 : decode cX3_pass 2 = .ok (.putfield 41, 3) := dk_181 0 41 (dk_at dksX3_pass_0 2 rfl rfl)
theorem dX3_pass_5 : decode cX3_pass 5 = .ok (.aload_n 0, 1) := dk_42 (dk_at dksX3_pass_0 5 rfl rfl)
theorem dX3_pass_6 : decode cX3_pass 6 = .ok (.invokevirtual 107, 3) := dk_182 0 107 (dk_at dksX3_pass_0 6 rfl rfl)
theorem dX3_pass_9 : decode cX3_pass 9 = .ok (.iload_n 1, 1) := dk_27 (dk_at dksX3_pass_0 9 rfl rfl)
theorem dX3_pass_10 : decode cX3_pass 10 = .ok (.iconst 1, 1) := dk_4 (dk_at dksX3_pass_0 10 rfl rfl)
theorem dX3_pass_11 : decode cX3_pass 11 = .ok (.bipush 40, 2) := dk_16 40 (dk_at dksX3_pass_0 11 rfl rfl)
theorem dX3_pass_13 : decode cX3_pass 13 = .ok (.invokestatic 70, 3) := dk_184 0 70 (dk_at dksX3_pass_0 13 rfl rfl)
theorem dX3_pass_16 : decode cX3_pass 16 = .ok (.ifCond .eq 16, 3) := dk_153 0 16 (dk_at dksX3_pass_0 16 rfl rfl)
theorem dX3_pass_19 : decode cX3_pass 19 = .ok (.aload_n 0, 1) := dk_42 (dk_at dksX3_pass_0 19 rfl rfl)
theorem dX3_pass_20 : decode cX3_pass 20 = .ok (.aload_n 0, 1) := dk_42 (dk_at dksX3_pass_0 20 rfl rfl)
theorem dX3_pass_21 : decode cX3_pass 21 = .ok (.iload_n 1, 1) := dk_27 (dk_at dksX3_pass_0 21 rfl rfl)
theorem dX3_pass_22 : decode cX3_pass 22 = .ok (.invokevirtual 146, 3) := dk_182 0 146 (dk_at dksX3_pass_1 0 rfl rfl)
theorem dX3_pass_25 : decode cX3_pass 25 = .ok (.iconst 2, 1) := dk_5 (dk_at dksX3_pass_1 3 rfl rfl)
theorem dX3_pass_26 : decode cX3_pass 26 = .ok (.invokevirtual 113, 3) := dk_182 0 113 (dk_at dksX3_pass_1 4 rfl rfl)
theorem dX3_pass_29 : decode cX3_pass 29 = .ok (.goto 8, 3) := dk_167 0 8 (dk_at dksX3_pass_1 7 rfl rfl)
theorem dX3_pass_32 : decode cX3_pass 32 = .ok (.aload_n 0, 1) := dk_42 (dk_at dksX3_pass_1 10 rfl rfl)
theorem dX3_pass_33 : decode cX3_pass 33 = .ok (.iconst 1, 1) := dk_4 (dk_at dksX3_pass_1 11 rfl rfl)
theorem dX3_pass_34 : decode cX3_pass 34 = .ok (.invokevirtual 67, 3) := dk_182 0 67 (dk_at dksX3_pass_1 12 rfl rfl)
theorem dX3_pass_37 : decode cX3_pass 37 = .ok (.ireturn, 1) := dk_172 (dk_at dksX3_pass_1 15 rfl rfl)
abbrev cX3_passes : ByteArray := prog_20_method_27_code
def yX3_passes : MethodName := ⟨RX3, "passes", "(I)I"⟩
def dkwX3_passes_1 : List UInt8 := [182, 0, 101, 172]
abbrev dktX3_passes_1 : List UInt8 := dkwX3_passes_1 ++ []
def dkwX3_passes_0 : List UInt8 := [3, 61, 3, 62, 29, 27, 162, 0, 16, 28, 42, 182, 0, 104, 96, 61, 132, 3, 1, 167, 255, 241, 42, 28]
abbrev dktX3_passes_0 : List UInt8 := dkwX3_passes_0 ++ dktX3_passes_1
theorem dksX3_passes_0 : cX3_passes.data.toList.drop 0 = dktX3_passes_0 := by decide +kernel
theorem dksX3_passes_1 : cX3_passes.data.toList.drop 24 = dktX3_passes_1 := dk_seg dksX3_passes_0 24 rfl rfl
theorem dX3_passes_0 : decode cX3_passes 0 = .ok (.iconst 0, 1) := dk_3 (dk_at dksX3_passes_0 0 rfl rfl)
theorem dX3_passes_1 : decode cX3_passes 1 = .ok (.istore_n 2, 1) := dk_61 (dk_at dksX3_passes_0 1 rfl rfl)
theorem dX3_passes_2 : decode cX3_passes 2 = .ok (.iconst 0, 1) := dk_3 (dk_at dksX3_passes_0 2 rfl rfl)
theorem dX3_passes_3 : decode cX3_passes 3 = .ok (.istore_n 3, 1) := dk_62 (dk_at dksX3_passes_0 3 rfl rfl)
theorem dX3_passes_4 : decode cX3_passes 4 = .ok (.iload_n 3, 1) := dk_29 (dk_at dksX3_passes_0 4 rfl rfl)
theorem dX3_passes_5 : decode cX3_passes 5 = .ok (.iload_n 1, 1) := dk_27 (dk_at dksX3_passes_0 5 rfl rfl)
theorem dX3_passes_6 : decode cX3_passes 6 = .ok (.if_icmp .ge 16, 3) := dk_162 0 16 (dk_at dksX3_passes_0 6 rfl rfl)
theorem dX3_passes_9 : decode cX3_passes 9 = .ok (.iload_n 2, 1) := dk_28 (dk_at dksX3_passes_0 9 rfl rfl)
theorem dX3_passes_10 : decode cX3_passes 10 = .ok (.aload_n 0, 1) := dk_42 (dk_at dksX3_passes_0 10 rfl rfl)
theorem dX3_passes_11 : decode cX3_passes 11 = .ok (.invokevirtual 104, 3) := dk_182 0 104 (dk_at dksX3_passes_0 11 rfl rfl)
theorem dX3_passes_14 : decode cX3_passes 14 = .ok (.iadd, 1) := dk_96 (dk_at dksX3_passes_0 14 rfl rfl)
theorem dX3_passes_15 : decode cX3_passes 15 = .ok (.istore_n 2, 1) := dk_61 (dk_at dksX3_passes_0 15 rfl rfl)
theorem dX3_passes_16 : decode cX3_passes 16 = .ok (.iinc 3 1, 3) := dk_132 3 1 (dk_at dksX3_passes_0 16 rfl rfl)
theorem dX3_passes_19 : decode cX3_passes 19 = .ok (.goto (-15), 3) := dk_167 255 241 (dk_at dksX3_passes_0 19 rfl rfl)
theorem dX3_passes_22 : decode cX3_passes 22 = .ok (.aload_n 0, 1) := dk_42 (dk_at dksX3_passes_0 22 rfl rfl)
theorem dX3_passes_23 : decode cX3_passes 23 = .ok (.iload_n 2, 1) := dk_28 (dk_at dksX3_passes_0 23 rfl rfl)
theorem dX3_passes_24 : decode cX3_passes 24 = .ok (.invokevirtual 101, 3) := dk_182 0 101 (dk_at dksX3_passes_1 0 rfl rfl)
theorem dX3_passes_27 : decode cX3_passes 27 = .ok (.ireturn, 1) := dk_172 (dk_at dksX3_passes_1 3 rfl rfl)
abbrev cX3_dayGoes : ByteArray := prog_20_method_19_code
def yX3_dayGoes : MethodName := ⟨RX3, "dayGoes", "()I"⟩
def dkwX3_dayGoes_9 : List UInt8 := [96, 79, 27, 172]
abbrev dktX3_dayGoes_9 : List UInt8 := dkwX3_dayGoes_9 ++ []
def dkwX3_dayGoes_8 : List UInt8 := [132, 2, 1, 167, 255, 157, 42, 180, 0, 7, 7, 92, 46, 27, 96, 79, 42, 180, 0, 7, 3, 92, 46, 4]
abbrev dktX3_dayGoes_8 : List UInt8 := dkwX3_dayGoes_8 ++ dktX3_dayGoes_9
def dkwX3_dayGoes_7 : List UInt8 := [28, 96, 46, 100, 16, 30, 161, 0, 7, 2, 167, 0, 12, 42, 180, 0, 7, 16, 65, 28, 96, 46, 79]
abbrev dktX3_dayGoes_7 : List UInt8 := dkwX3_dayGoes_7 ++ dktX3_dayGoes_8
def dkwX3_dayGoes_6 : List UInt8 := [180, 0, 7, 16, 65, 28, 96, 46, 2, 159, 0, 28, 42, 180, 0, 7, 3, 46, 42, 180, 0, 7, 16, 65]
abbrev dktX3_dayGoes_6 : List UInt8 := dkwX3_dayGoes_6 ++ dktX3_dayGoes_7
def dkwX3_dayGoes_5 : List UInt8 := [46, 42, 180, 0, 7, 16, 55, 28, 96, 46, 184, 0, 88, 79, 42, 180, 0, 7, 16, 65, 28, 96, 42]
abbrev dktX3_dayGoes_5 : List UInt8 := dkwX3_dayGoes_5 ++ dktX3_dayGoes_6
def dkwX3_dayGoes_4 : List UInt8 := [180, 0, 7, 4, 46, 162, 0, 95, 42, 180, 0, 7, 16, 45, 28, 96, 42, 180, 0, 7, 16, 45, 28, 96]
abbrev dktX3_dayGoes_4 : List UInt8 := dkwX3_dayGoes_4 ++ dktX3_dayGoes_5
def dkwX3_dayGoes_3 : List UInt8 := [96, 46, 16, 10, 108, 167, 0, 4, 3, 96, 182, 0, 85, 132, 2, 1, 167, 255, 172, 3, 61, 28, 42]
abbrev dktX3_dayGoes_3 : List UInt8 := dkwX3_dayGoes_3 ++ dktX3_dayGoes_4
def dkwX3_dayGoes_2 : List UInt8 := [60, 42, 28, 16, 30, 42, 180, 0, 7, 16, 45, 28, 96, 46, 158, 0, 18, 42, 180, 0, 7, 16, 45, 28]
abbrev dktX3_dayGoes_2 : List UInt8 := dkwX3_dayGoes_2 ++ dktX3_dayGoes_3
def dkwX3_dayGoes_1 : List UInt8 := [182, 0, 74, 160, 0, 58, 42, 28, 182, 0, 78, 153, 0, 6, 167, 0, 47, 27, 42, 28, 182, 0, 82, 96]
abbrev dktX3_dayGoes_1 : List UInt8 := dkwX3_dayGoes_1 ++ dktX3_dayGoes_2
def dkwX3_dayGoes_0 : List UInt8 := [3, 60, 3, 61, 28, 42, 180, 0, 7, 4, 46, 162, 0, 80, 42, 180, 0, 7, 16, 15, 28, 96, 46, 42]
abbrev dktX3_dayGoes_0 : List UInt8 := dkwX3_dayGoes_0 ++ dktX3_dayGoes_1
theorem dksX3_dayGoes_0 : cX3_dayGoes.data.toList.drop 0 = dktX3_dayGoes_0 := by decide +kernel
theorem dksX3_dayGoes_1 : cX3_dayGoes.data.toList.drop 24 = dktX3_dayGoes_1 := dk_seg dksX3_dayGoes_0 24 rfl rfl
theorem dksX3_dayGoes_2 : cX3_dayGoes.data.toList.drop 48 = dktX3_dayGoes_2 := dk_seg dksX3_dayGoes_1 24 rfl rfl
theorem dksX3_dayGoes_3 : cX3_dayGoes.data.toList.drop 72 = dktX3_dayGoes_3 := dk_seg dksX3_dayGoes_2 24 rfl rfl
theorem dksX3_dayGoes_4 : cX3_dayGoes.data.toList.drop 95 = dktX3_dayGoes_4 := dk_seg dksX3_dayGoes_3 23 rfl rfl
theorem dksX3_dayGoes_5 : cX3_dayGoes.data.toList.drop 119 = dktX3_dayGoes_5 := dk_seg dksX3_dayGoes_4 24 rfl rfl
theorem dksX3_dayGoes_6 : cX3_dayGoes.data.toList.drop 142 = dktX3_dayGoes_6 := dk_seg dksX3_dayGoes_5 23 rfl rfl
theorem dksX3_dayGoes_7 : cX3_dayGoes.data.toList.drop 166 = dktX3_dayGoes_7 := dk_seg dksX3_dayGoes_6 24 rfl rfl
theorem dksX3_dayGoes_8 : cX3_dayGoes.data.toList.drop 189 = dktX3_dayGoes_8 := dk_seg dksX3_dayGoes_7 23 rfl rfl
theorem dksX3_dayGoes_9 : cX3_dayGoes.data.toList.drop 213 = dktX3_dayGoes_9 := dk_seg dksX3_dayGoes_8 24 rfl rfl
theorem dX3_dayGoes_0 : decode cX3_dayGoes 0 = .ok (.iconst 0, 1) := dk_3 (dk_at dksX3_dayGoes_0 0 rfl rfl)
theorem dX3_dayGoes_1 : decode cX3_dayGoes 1 = .ok (.istore_n 1, 1) := dk_60 (dk_at dksX3_dayGoes_0 1 rfl rfl)
theorem dX3_dayGoes_2 : decode cX3_dayGoes 2 = .ok (.iconst 0, 1) := dk_3 (dk_at dksX3_dayGoes_0 2 rfl rfl)
theorem dX3_dayGoes_3 : decode cX3_dayGoes 3 = .ok (.istore_n 2, 1) := dk_61 (dk_at dksX3_dayGoes_0 3 rfl rfl)
theorem dX3_dayGoes_4 : decode cX3_dayGoes 4 = .ok (.iload_n 2, 1) := dk_28 (dk_at dksX3_dayGoes_0 4 rfl rfl)
theorem dX3_dayGoes_5 : decode cX3_dayGoes 5 = .ok (.aload_n 0, 1) := dk_42 (dk_at dksX3_dayGoes_0 5 rfl rfl)
theorem dX3_dayGoes_6 : decode cX3_dayGoes 6 = .ok (.getfield 7, 3) := dk_180 0 7 (dk_at dksX3_dayGoes_0 6 rfl rfl)
theorem dX3_dayGoes_9 : decode cX3_dayGoes 9 = .ok (.iconst 1, 1) := dk_4 (dk_at dksX3_dayGoes_0 9 rfl rfl)
theorem dX3_dayGoes_10 : decode cX3_dayGoes 10 = .ok (.iaload, 1) := dk_46 (dk_at dksX3_dayGoes_0 10 rfl rfl)
theorem dX3_dayGoes_11 : decode cX3_dayGoes 11 = .ok (.if_icmp .ge 80, 3) := dk_162 0 80 (dk_at dksX3_dayGoes_0 11 rfl rfl)
theorem dX3_dayGoes_14 : decode cX3_dayGoes 14 = .ok (.aload_n 0, 1) := dk_42 (dk_at dksX3_dayGoes_0 14 rfl rfl)
theorem dX3_dayGoes_15 : decode cX3_dayGoes 15 = .ok (.getfield 7, 3) := dk_180 0 7 (dk_at dksX3_dayGoes_0 15 rfl rfl)
theorem dX3_dayGoes_18 : decode cX3_dayGoes 18 = .ok (.bipush 15, 2) := dk_16 15 (dk_at dksX3_dayGoes_0 18 rfl rfl)
theorem dX3_dayGoes_20 : decode cX3_dayGoes 20 = .ok (.iload_n 2, 1) := dk_28 (dk_at dksX3_dayGoes_0 20 rfl rfl)
theorem dX3_dayGoes_21 : decode cX3_dayGoes 21 = .ok (.iadd, 1) := dk_96 (dk_at dksX3_dayGoes_0 21 rfl rfl)
theorem dX3_dayGoes_22 : decode cX3_dayGoes 22 = .ok (.iaload, 1) := dk_46 (dk_at dksX3_dayGoes_0 22 rfl rfl)
theorem dX3_dayGoes_23 : decode cX3_dayGoes 23 = .ok (.aload_n 0, 1) := dk_42 (dk_at dksX3_dayGoes_0 23 rfl rfl)
theorem dX3_dayGoes_24 : decode cX3_dayGoes 24 = .ok (.invokevirtual 74, 3) := dk_182 0 74 (dk_at dksX3_dayGoes_1 0 rfl rfl)
theorem dX3_dayGoes_27 : decode cX3_dayGoes 27 = .ok (.if_icmp .ne 58, 3) := dk_160 0 58 (dk_at dksX3_dayGoes_1 3 rfl rfl)
theorem dX3_dayGoes_30 : decode cX3_dayGoes 30 = .ok (.aload_n 0, 1) := dk_42 (dk_at dksX3_dayGoes_1 6 rfl rfl)
theorem dX3_dayGoes_31 : decode cX3_dayGoes 31 = .ok (.iload_n 2, 1) := dk_28 (dk_at dksX3_dayGoes_1 7 rfl rfl)
theorem dX3_dayGoes_32 : decode cX3_dayGoes 32 = .ok (.invokevirtual 78, 3) := dk_182 0 78 (dk_at dksX3_dayGoes_1 8 rfl rfl)
theorem dX3_dayGoes_35 : decode cX3_dayGoes 35 = .ok (.ifCond .eq 6, 3) := dk_153 0 6 (dk_at dksX3_dayGoes_1 11 rfl rfl)
theorem dX3_dayGoes_38 : decode cX3_dayGoes 38 = .ok (.goto 47, 3) := dk_167 0 47 (dk_at dksX3_dayGoes_1 14 rfl rfl)
theorem dX3_dayGoes_41 : decode cX3_dayGoes 41 = .ok (.iload_n 1, 1) := dk_27 (dk_at dksX3_dayGoes_1 17 rfl rfl)
theorem dX3_dayGoes_42 : decode cX3_dayGoes 42 = .ok (.aload_n 0, 1) := dk_42 (dk_at dksX3_dayGoes_1 18 rfl rfl)
theorem dX3_dayGoes_43 : decode cX3_dayGoes 43 = .ok (.iload_n 2, 1) := dk_28 (dk_at dksX3_dayGoes_1 19 rfl rfl)
theorem dX3_dayGoes_44 : decode cX3_dayGoes 44 = .ok (.invokevirtual 82, 3) := dk_182 0 82 (dk_at dksX3_dayGoes_1 20 rfl rfl)
theorem dX3_dayGoes_47 : decode cX3_dayGoes 47 = .ok (.iadd, 1) := dk_96 (dk_at dksX3_dayGoes_1 23 rfl rfl)
theorem dX3_dayGoes_48 : decode cX3_dayGoes 48 = .ok (.istore_n 1, 1) := dk_60 (dk_at dksX3_dayGoes_2 0 rfl rfl)
theorem dX3_dayGoes_49 : decode cX3_dayGoes 49 = .ok (.aload_n 0, 1) := dk_42 (dk_at dksX3_dayGoes_2 1 rfl rfl)
theorem dX3_dayGoes_50 : decode cX3_dayGoes 50 = .ok (.iload_n 2, 1) := dk_28 (dk_at dksX3_dayGoes_2 2 rfl rfl)
theorem dX3_dayGoes_51 : decode cX3_dayGoes 51 = .ok (.bipush 30, 2) := dk_16 30 (dk_at dksX3_dayGoes_2 3 rfl rfl)
theorem dX3_dayGoes_53 : decode cX3_dayGoes 53 = .ok (.aload_n 0, 1) := dk_42 (dk_at dksX3_dayGoes_2 5 rfl rfl)
theorem dX3_dayGoes_54 : decode cX3_dayGoes 54 = .ok (.getfield 7, 3) := dk_180 0 7 (dk_at dksX3_dayGoes_2 6 rfl rfl)
theorem dX3_dayGoes_57 : decode cX3_dayGoes 57 = .ok (.bipush 45, 2) := dk_16 45 (dk_at dksX3_dayGoes_2 9 rfl rfl)
theorem dX3_dayGoes_59 : decode cX3_dayGoes 59 = .ok (.iload_n 2, 1) := dk_28 (dk_at dksX3_dayGoes_2 11 rfl rfl)
theorem dX3_dayGoes_60 : decode cX3_dayGoes 60 = .ok (.iadd, 1) := dk_96 (dk_at dksX3_dayGoes_2 12 rfl rfl)
theorem dX3_dayGoes_61 : decode cX3_dayGoes 61 = .ok (.iaload, 1) := dk_46 (dk_at dksX3_dayGoes_2 13 rfl rfl)
theorem dX3_dayGoes_62 : decode cX3_dayGoes 62 = .ok (.ifCond .le 18, 3) := dk_158 0 18 (dk_at dksX3_dayGoes_2 14 rfl rfl)
theorem dX3_dayGoes_65 : decode cX3_dayGoes 65 = .ok (.aload_n 0, 1) := dk_42 (dk_at dksX3_dayGoes_2 17 rfl rfl)
theorem dX3_dayGoes_66 : decode cX3_dayGoes 66 = .ok (.getfield 7, 3) := dk_180 0 7 (dk_at dksX3_dayGoes_2 18 rfl rfl)
theorem dX3_dayGoes_69 : decode cX3_dayGoes 69 = .ok (.bipush 45, 2) := dk_16 45 (dk_at dksX3_dayGoes_2 21 rfl rfl)
theorem dX3_dayGoes_71 : decode cX3_dayGoes 71 = .ok (.iload_n 2, 1) := dk_28 (dk_at dksX3_dayGoes_2 23 rfl rfl)
theorem dX3_dayGoes_72 : decode cX3_dayGoes 72 = .ok (.iadd, 1) := dk_96 (dk_at dksX3_dayGoes_3 0 rfl rfl)
theorem dX3_dayGoes_73 : decode cX3_dayGoes 73 = .ok (.iaload, 1) := dk_46 (dk_at dksX3_dayGoes_3 1 rfl rfl)
theorem dX3_dayGoes_74 : decode cX3_dayGoes 74 = .ok (.bipush 10, 2) := dk_16 10 (dk_at dksX3_dayGoes_3 2 rfl rfl)
theorem dX3_dayGoes_76 : decode cX3_dayGoes 76 = .ok (.idiv, 1) := dk_108 (dk_at dksX3_dayGoes_3 4 rfl rfl)
theorem dX3_dayGoes_77 : decode cX3_dayGoes 77 = .ok (.goto 4, 3) := dk_167 0 4 (dk_at dksX3_dayGoes_3 5 rfl rfl)
theorem dX3_dayGoes_80 : decode cX3_dayGoes 80 = .ok (.iconst 0, 1) := dk_3 (dk_at dksX3_dayGoes_3 8 rfl rfl)
theorem dX3_dayGoes_81 : decode cX3_dayGoes 81 = .ok (.iadd, 1) := dk_96 (dk_at dksX3_dayGoes_3 9 rfl rfl)
theorem dX3_dayGoes_82 : decode cX3_dayGoes 82 = .ok (.invokevirtual 85, 3) := dk_182 0 85 (dk_at dksX3_dayGoes_3 10 rfl rfl)
theorem dX3_dayGoes_85 : decode cX3_dayGoes 85 = .ok (.iinc 2 1, 3) := dk_132 2 1 (dk_at dksX3_dayGoes_3 13 rfl rfl)
theorem dX3_dayGoes_88 : decode cX3_dayGoes 88 = .ok (.goto (-84), 3) := dk_167 255 172 (dk_at dksX3_dayGoes_3 16 rfl rfl)
theorem dX3_dayGoes_91 : decode cX3_dayGoes 91 = .ok (.iconst 0, 1) := dk_3 (dk_at dksX3_dayGoes_3 19 rfl rfl)
theorem dX3_dayGoes_92 : decode cX3_dayGoes 92 = .ok (.istore_n 2, 1) := dk_61 (dk_at dksX3_dayGoes_3 20 rfl rfl)
theorem dX3_dayGoes_93 : decode cX3_dayGoes 93 = .ok (.iload_n 2, 1) := dk_28 (dk_at dksX3_dayGoes_3 21 rfl rfl)
theorem dX3_dayGoes_94 : decode cX3_dayGoes 94 = .ok (.aload_n 0, 1) := dk_42 (dk_at dksX3_dayGoes_3 22 rfl rfl)
theorem dX3_dayGoes_95 : decode cX3_dayGoes 95 = .ok (.getfield 7, 3) := dk_180 0 7 (dk_at dksX3_dayGoes_4 0 rfl rfl)
theorem dX3_dayGoes_98 : decode cX3_dayGoes 98 = .ok (.iconst 1, 1) := dk_4 (dk_at dksX3_dayGoes_4 3 rfl rfl)
theorem dX3_dayGoes_99 : decode cX3_dayGoes 99 = .ok (.iaload, 1) := dk_46 (dk_at dksX3_dayGoes_4 4 rfl rfl)
theorem dX3_dayGoes_100 : decode cX3_dayGoes 100 = .ok (.if_icmp .ge 95, 3) := dk_162 0 95 (dk_at dksX3_dayGoes_4 5 rfl rfl)
theorem dX3_dayGoes_103 : decode cX3_dayGoes 103 = .ok (.aload_n 0, 1) := dk_42 (dk_at dksX3_dayGoes_4 8 rfl rfl)
theorem dX3_dayGoes_104 : decode cX3_dayGoes 104 = .ok (.getfield 7, 3) := dk_180 0 7 (dk_at dksX3_dayGoes_4 9 rfl rfl)
theorem dX3_dayGoes_107 : decode cX3_dayGoes 107 = .ok (.bipush 45, 2) := dk_16 45 (dk_at dksX3_dayGoes_4 12 rfl rfl)
theorem dX3_dayGoes_109 : decode cX3_dayGoes 109 = .ok (.iload_n 2, 1) := dk_28 (dk_at dksX3_dayGoes_4 14 rfl rfl)
theorem dX3_dayGoes_110 : decode cX3_dayGoes 110 = .ok (.iadd, 1) := dk_96 (dk_at dksX3_dayGoes_4 15 rfl rfl)
theorem dX3_dayGoes_111 : decode cX3_dayGoes 111 = .ok (.aload_n 0, 1) := dk_42 (dk_at dksX3_dayGoes_4 16 rfl rfl)
theorem dX3_dayGoes_112 : decode cX3_dayGoes 112 = .ok (.getfield 7, 3) := dk_180 0 7 (dk_at dksX3_dayGoes_4 17 rfl rfl)
theorem dX3_dayGoes_115 : decode cX3_dayGoes 115 = .ok (.bipush 45, 2) := dk_16 45 (dk_at dksX3_dayGoes_4 20 rfl rfl)
theorem dX3_dayGoes_117 : decode cX3_dayGoes 117 = .ok (.iload_n 2, 1) := dk_28 (dk_at dksX3_dayGoes_4 22 rfl rfl)
theorem dX3_dayGoes_118 : decode cX3_dayGoes 118 = .ok (.iadd, 1) := dk_96 (dk_at dksX3_dayGoes_4 23 rfl rfl)
theorem dX3_dayGoes_119 : decode cX3_dayGoes 119 = .ok (.iaload, 1) := dk_46 (dk_at dksX3_dayGoes_5 0 rfl rfl)
theorem dX3_dayGoes_120 : decode cX3_dayGoes 120 = .ok (.aload_n 0, 1) := dk_42 (dk_at dksX3_dayGoes_5 1 rfl rfl)
theorem dX3_dayGoes_121 : decode cX3_dayGoes 121 = .ok (.getfield 7, 3) := dk_180 0 7 (dk_at dksX3_dayGoes_5 2 rfl rfl)
theorem dX3_dayGoes_124 : decode cX3_dayGoes 124 = .ok (.bipush 55, 2) := dk_16 55 (dk_at dksX3_dayGoes_5 5 rfl rfl)
theorem dX3_dayGoes_126 : decode cX3_dayGoes 126 = .ok (.iload_n 2, 1) := dk_28 (dk_at dksX3_dayGoes_5 7 rfl rfl)
theorem dX3_dayGoes_127 : decode cX3_dayGoes 127 = .ok (.iadd, 1) := dk_96 (dk_at dksX3_dayGoes_5 8 rfl rfl)
theorem dX3_dayGoes_128 : decode cX3_dayGoes 128 = .ok (.iaload, 1) := dk_46 (dk_at dksX3_dayGoes_5 9 rfl rfl)
theorem dX3_dayGoes_129 : decode cX3_dayGoes 129 = .ok (.invokestatic 88, 3) := dk_184 0 88 (dk_at dksX3_dayGoes_5 10 rfl rfl)
theorem dX3_dayGoes_132 : decode cX3_dayGoes 132 = .ok (.iastore, 1) := dk_79 (dk_at dksX3_dayGoes_5 13 rfl rfl)
theorem dX3_dayGoes_133 : decode cX3_dayGoes 133 = .ok (.aload_n 0, 1) := dk_42 (dk_at dksX3_dayGoes_5 14 rfl rfl)
theorem dX3_dayGoes_134 : decode cX3_dayGoes 134 = .ok (.getfield 7, 3) := dk_180 0 7 (dk_at dksX3_dayGoes_5 15 rfl rfl)
theorem dX3_dayGoes_137 : decode cX3_dayGoes 137 = .ok (.bipush 65, 2) := dk_16 65 (dk_at dksX3_dayGoes_5 18 rfl rfl)
theorem dX3_dayGoes_139 : decode cX3_dayGoes 139 = .ok (.iload_n 2, 1) := dk_28 (dk_at dksX3_dayGoes_5 20 rfl rfl)
theorem dX3_dayGoes_140 : decode cX3_dayGoes 140 = .ok (.iadd, 1) := dk_96 (dk_at dksX3_dayGoes_5 21 rfl rfl)
theorem dX3_dayGoes_141 : decode cX3_dayGoes 141 = .ok (.aload_n 0, 1) := dk_42 (dk_at dksX3_dayGoes_5 22 rfl rfl)
theorem dX3_dayGoes_142 : decode cX3_dayGoes 142 = .ok (.getfield 7, 3) := dk_180 0 7 (dk_at dksX3_dayGoes_6 0 rfl rfl)
theorem dX3_dayGoes_145 : decode cX3_dayGoes 145 = .ok (.bipush 65, 2) := dk_16 65 (dk_at dksX3_dayGoes_6 3 rfl rfl)
theorem dX3_dayGoes_147 : decode cX3_dayGoes 147 = .ok (.iload_n 2, 1) := dk_28 (dk_at dksX3_dayGoes_6 5 rfl rfl)
theorem dX3_dayGoes_148 : decode cX3_dayGoes 148 = .ok (.iadd, 1) := dk_96 (dk_at dksX3_dayGoes_6 6 rfl rfl)
theorem dX3_dayGoes_149 : decode cX3_dayGoes 149 = .ok (.iaload, 1) := dk_46 (dk_at dksX3_dayGoes_6 7 rfl rfl)
theorem dX3_dayGoes_150 : decode cX3_dayGoes 150 = .ok (.iconst (-1), 1) := dk_2 (dk_at dksX3_dayGoes_6 8 rfl rfl)
theorem dX3_dayGoes_151 : decode cX3_dayGoes 151 = .ok (.if_icmp .eq 28, 3) := dk_159 0 28 (dk_at dksX3_dayGoes_6 9 rfl rfl)
theorem dX3_dayGoes_154 : decode cX3_dayGoes 154 = .ok (.aload_n 0, 1) := dk_42 (dk_at dksX3_dayGoes_6 12 rfl rfl)
theorem dX3_dayGoes_155 : decode cX3_dayGoes 155 = .ok (.getfield 7, 3) := dk_180 0 7 (dk_at dksX3_dayGoes_6 13 rfl rfl)
theorem dX3_dayGoes_158 : decode cX3_dayGoes 158 = .ok (.iconst 0, 1) := dk_3 (dk_at dksX3_dayGoes_6 16 rfl rfl)
theorem dX3_dayGoes_159 : decode cX3_dayGoes 159 = .ok (.iaload, 1) := dk_46 (dk_at dksX3_dayGoes_6 17 rfl rfl)
theorem dX3_dayGoes_160 : decode cX3_dayGoes 160 = .ok (.aload_n 0, 1) := dk_42 (dk_at dksX3_dayGoes_6 18 rfl rfl)
theorem dX3_dayGoes_161 : decode cX3_dayGoes 161 = .ok (.getfield 7, 3) := dk_180 0 7 (dk_at dksX3_dayGoes_6 19 rfl rfl)
theorem dX3_dayGoes_164 : decode cX3_dayGoes 164 = .ok (.bipush 65, 2) := dk_16 65 (dk_at dksX3_dayGoes_6 22 rfl rfl)
theorem dX3_dayGoes_166 : decode cX3_dayGoes 166 = .ok (.iload_n 2, 1) := dk_28 (dk_at dksX3_dayGoes_7 0 rfl rfl)
theorem dX3_dayGoes_167 : decode cX3_dayGoes 167 = .ok (.iadd, 1) := dk_96 (dk_at dksX3_dayGoes_7 1 rfl rfl)
theorem dX3_dayGoes_168 : decode cX3_dayGoes 168 = .ok (.iaload, 1) := dk_46 (dk_at dksX3_dayGoes_7 2 rfl rfl)
theorem dX3_dayGoes_169 : decode cX3_dayGoes 169 = .ok (.isub, 1) := dk_100 (dk_at dksX3_dayGoes_7 3 rfl rfl)
theorem dX3_dayGoes_170 : decode cX3_dayGoes 170 = .ok (.bipush 30, 2) := dk_16 30 (dk_at dksX3_dayGoes_7 4 rfl rfl)
theorem dX3_dayGoes_172 : decode cX3_dayGoes 172 = .ok (.if_icmp .lt 7, 3) := dk_161 0 7 (dk_at dksX3_dayGoes_7 6 rfl rfl)
theorem dX3_dayGoes_175 : decode cX3_dayGoes 175 = .ok (.iconst (-1), 1) := dk_2 (dk_at dksX3_dayGoes_7 9 rfl rfl)
theorem dX3_dayGoes_176 : decode cX3_dayGoes 176 = .ok (.goto 12, 3) := dk_167 0 12 (dk_at dksX3_dayGoes_7 10 rfl rfl)
theorem dX3_dayGoes_179 : decode cX3_dayGoes 179 = .ok (.aload_n 0, 1) := dk_42 (dk_at dksX3_dayGoes_7 13 rfl rfl)
theorem dX3_dayGoes_180 : decode cX3_dayGoes 180 = .ok (.getfield 7, 3) := dk_180 0 7 (dk_at dksX3_dayGoes_7 14 rfl rfl)
theorem dX3_dayGoes_183 : decode cX3_dayGoes 183 = .ok (.bipush 65, 2) := dk_16 65 (dk_at dksX3_dayGoes_7 17 rfl rfl)
theorem dX3_dayGoes_185 : decode cX3_dayGoes 185 = .ok (.iload_n 2, 1) := dk_28 (dk_at dksX3_dayGoes_7 19 rfl rfl)
theorem dX3_dayGoes_186 : decode cX3_dayGoes 186 = .ok (.iadd, 1) := dk_96 (dk_at dksX3_dayGoes_7 20 rfl rfl)
theorem dX3_dayGoes_187 : decode cX3_dayGoes 187 = .ok (.iaload, 1) := dk_46 (dk_at dksX3_dayGoes_7 21 rfl rfl)
theorem dX3_dayGoes_188 : decode cX3_dayGoes 188 = .ok (.iastore, 1) := dk_79 (dk_at dksX3_dayGoes_7 22 rfl rfl)
theorem dX3_dayGoes_189 : decode cX3_dayGoes 189 = .ok (.iinc 2 1, 3) := dk_132 2 1 (dk_at dksX3_dayGoes_8 0 rfl rfl)
theorem dX3_dayGoes_192 : decode cX3_dayGoes 192 = .ok (.goto (-99), 3) := dk_167 255 157 (dk_at dksX3_dayGoes_8 3 rfl rfl)
theorem dX3_dayGoes_195 : decode cX3_dayGoes 195 = .ok (.aload_n 0, 1) := dk_42 (dk_at dksX3_dayGoes_8 6 rfl rfl)
theorem dX3_dayGoes_196 : decode cX3_dayGoes 196 = .ok (.getfield 7, 3) := dk_180 0 7 (dk_at dksX3_dayGoes_8 7 rfl rfl)
theorem dX3_dayGoes_199 : decode cX3_dayGoes 199 = .ok (.iconst 4, 1) := dk_7 (dk_at dksX3_dayGoes_8 10 rfl rfl)
theorem dX3_dayGoes_200 : decode cX3_dayGoes 200 = .ok (.dup2, 1) := dk_92 (dk_at dksX3_dayGoes_8 11 rfl rfl)
theorem dX3_dayGoes_201 : decode cX3_dayGoes 201 = .ok (.iaload, 1) := dk_46 (dk_at dksX3_dayGoes_8 12 rfl rfl)
theorem dX3_dayGoes_202 : decode cX3_dayGoes 202 = .ok (.iload_n 1, 1) := dk_27 (dk_at dksX3_dayGoes_8 13 rfl rfl)
theorem dX3_dayGoes_203 : decode cX3_dayGoes 203 = .ok (.iadd, 1) := dk_96 (dk_at dksX3_dayGoes_8 14 rfl rfl)
theorem dX3_dayGoes_204 : decode cX3_dayGoes 204 = .ok (.iastore, 1) := dk_79 (dk_at dksX3_dayGoes_8 15 rfl rfl)
theorem dX3_dayGoes_205 : decode cX3_dayGoes 205 = .ok (.aload_n 0, 1) := dk_42 (dk_at dksX3_dayGoes_8 16 rfl rfl)
theorem dX3_dayGoes_206 : decode cX3_dayGoes 206 = .ok (.getfield 7, 3) := dk_180 0 7 (dk_at dksX3_dayGoes_8 17 rfl rfl)
theorem dX3_dayGoes_209 : decode cX3_dayGoes 209 = .ok (.iconst 0, 1) := dk_3 (dk_at dksX3_dayGoes_8 20 rfl rfl)
theorem dX3_dayGoes_210 : decode cX3_dayGoes 210 = .ok (.dup2, 1) := dk_92 (dk_at dksX3_dayGoes_8 21 rfl rfl)
theorem dX3_dayGoes_211 : decode cX3_dayGoes 211 = .ok (.iaload, 1) := dk_46 (dk_at dksX3_dayGoes_8 22 rfl rfl)
theorem dX3_dayGoes_212 : decode cX3_dayGoes 212 = .ok (.iconst 1, 1) := dk_4 (dk_at dksX3_dayGoes_8 23 rfl rfl)
theorem dX3_dayGoes_213 : decode cX3_dayGoes 213 = .ok (.iadd, 1) := dk_96 (dk_at dksX3_dayGoes_9 0 rfl rfl)
theorem dX3_dayGoes_214 : decode cX3_dayGoes 214 = .ok (.iastore, 1) := dk_79 (dk_at dksX3_dayGoes_9 1 rfl rfl)
theorem dX3_dayGoes_215 : decode cX3_dayGoes 215 = .ok (.iload_n 1, 1) := dk_27 (dk_at dksX3_dayGoes_9 2 rfl rfl)
theorem dX3_dayGoes_216 : decode cX3_dayGoes 216 = .ok (.ireturn, 1) := dk_172 (dk_at dksX3_dayGoes_9 3 rfl rfl)
abbrev cX3_lossOf : ByteArray := prog_20_method_16_code
def yX3_lossOf : MethodName := ⟨RX3, "lossOf", "(I)I"⟩
def dkwX3_lossOf_1 : List UInt8 := [167, 0, 4, 3, 42, 180, 0, 7, 16, 75, 27, 96, 46, 8, 108, 96, 172]
abbrev dktX3_lossOf_1 : List UInt8 := dkwX3_lossOf_1 ++ []
def dkwX3_lossOf_0 : List UInt8 := [42, 180, 0, 7, 16, 45, 27, 96, 46, 158, 0, 18, 42, 180, 0, 7, 16, 45, 27, 96, 46, 16, 10, 108]
abbrev dktX3_lossOf_0 : List UInt8 := dkwX3_lossOf_0 ++ dktX3_lossOf_1
theorem dksX3_lossOf_0 : cX3_lossOf.data.toList.drop 0 = dktX3_lossOf_0 := by decide +kernel
theorem dksX3_lossOf_1 : cX3_lossOf.data.toList.drop 24 = dktX3_lossOf_1 := dk_seg dksX3_lossOf_0 24 rfl rfl
theorem dX3_lossOf_0 : decode cX3_lossOf 0 = .ok (.aload_n 0, 1) := dk_42 (dk_at dksX3_lossOf_0 0 rfl rfl)
theorem dX3_lossOf_1 : decode cX3_lossOf 1 = .ok (.getfield 7, 3) := dk_180 0 7 (dk_at dksX3_lossOf_0 1 rfl rfl)
theorem dX3_lossOf_4 : decode cX3_lossOf 4 = .ok (.bipush 45, 2) := dk_16 45 (dk_at dksX3_lossOf_0 4 rfl rfl)
theorem dX3_lossOf_6 : decode cX3_lossOf 6 = .ok (.iload_n 1, 1) := dk_27 (dk_at dksX3_lossOf_0 6 rfl rfl)
theorem dX3_lossOf_7 : decode cX3_lossOf 7 = .ok (.iadd, 1) := dk_96 (dk_at dksX3_lossOf_0 7 rfl rfl)
theorem dX3_lossOf_8 : decode cX3_lossOf 8 = .ok (.iaload, 1) := dk_46 (dk_at dksX3_lossOf_0 8 rfl rfl)
theorem dX3_lossOf_9 : decode cX3_lossOf 9 = .ok (.ifCond .le 18, 3) := dk_158 0 18 (dk_at dksX3_lossOf_0 9 rfl rfl)
theorem dX3_lossOf_12 : decode cX3_lossOf 12 = .ok (.aload_n 0, 1) := dk_42 (dk_at dksX3_lossOf_0 12 rfl rfl)
theorem dX3_lossOf_13 : decode cX3_lossOf 13 = .ok (.getfield 7, 3) := dk_180 0 7 (dk_at dksX3_lossOf_0 13 rfl rfl)
theorem dX3_lossOf_16 : decode cX3_lossOf 16 = .ok (.bipush 45, 2) := dk_16 45 (dk_at dksX3_lossOf_0 16 rfl rfl)
theorem dX3_lossOf_18 : decode cX3_lossOf 18 = .ok (.iload_n 1, 1) := dk_27 (dk_at dksX3_lossOf_0 18 rfl rfl)
theorem dX3_lossOf_19 : decode cX3_lossOf 19 = .ok (.iadd, 1) := dk_96 (dk_at dksX3_lossOf_0 19 rfl rfl)
theorem dX3_lossOf_20 : decode cX3_lossOf 20 = .ok (.iaload, 1) := dk_46 (dk_at dksX3_lossOf_0 20 rfl rfl)
theorem dX3_lossOf_21 : decode cX3_lossOf 21 = .ok (.bipush 10, 2) := dk_16 10 (dk_at dksX3_lossOf_0 21 rfl rfl)
theorem dX3_lossOf_23 : decode cX3_lossOf 23 = .ok (.idiv, 1) := dk_108 (dk_at dksX3_lossOf_0 23 rfl rfl)
theorem dX3_lossOf_24 : decode cX3_lossOf 24 = .ok (.goto 4, 3) := dk_167 0 4 (dk_at dksX3_lossOf_1 0 rfl rfl)
theorem dX3_lossOf_27 : decode cX3_lossOf 27 = .ok (.iconst 0, 1) := dk_3 (dk_at dksX3_lossOf_1 3 rfl rfl)
theorem dX3_lossOf_28 : decode cX3_lossOf 28 = .ok (.aload_n 0, 1) := dk_42 (dk_at dksX3_lossOf_1 4 rfl rfl)
theorem dX3_lossOf_29 : decode cX3_lossOf 29 = .ok (.getfield 7, 3) := dk_180 0 7 (dk_at dksX3_lossOf_1 5 rfl rfl)
theorem dX3_lossOf_32 : decode cX3_lossOf 32 = .ok (.bipush 75, 2) := dk_16 75 (dk_at dksX3_lossOf_1 8 rfl rfl)
theorem dX3_lossOf_34 : decode cX3_lossOf 34 = .ok (.iload_n 1, 1) := dk_27 (dk_at dksX3_lossOf_1 10 rfl rfl)
theorem dX3_lossOf_35 : decode cX3_lossOf 35 = .ok (.iadd, 1) := dk_96 (dk_at dksX3_lossOf_1 11 rfl rfl)
theorem dX3_lossOf_36 : decode cX3_lossOf 36 = .ok (.iaload, 1) := dk_46 (dk_at dksX3_lossOf_1 12 rfl rfl)
theorem dX3_lossOf_37 : decode cX3_lossOf 37 = .ok (.iconst 5, 1) := dk_8 (dk_at dksX3_lossOf_1 13 rfl rfl)
theorem dX3_lossOf_38 : decode cX3_lossOf 38 = .ok (.idiv, 1) := dk_108 (dk_at dksX3_lossOf_1 14 rfl rfl)
theorem dX3_lossOf_39 : decode cX3_lossOf 39 = .ok (.iadd, 1) := dk_96 (dk_at dksX3_lossOf_1 15 rfl rfl)
theorem dX3_lossOf_40 : decode cX3_lossOf 40 = .ok (.ireturn, 1) := dk_172 (dk_at dksX3_lossOf_1 16 rfl rfl)
abbrev cX3_gets : ByteArray := prog_20_method_15_code
def yX3_gets : MethodName := ⟨RX3, "gets", "(II)V"⟩
def dkwX3_gets_3 : List UInt8 := [17, 3, 231, 164, 0, 9, 17, 3, 231, 167, 0, 5, 21, 4, 79, 177]
abbrev dktX3_gets_3 : List UInt8 := dkwX3_gets_3 ++ []
def dkwX3_gets_2 : List UInt8 := [180, 0, 7, 16, 25, 27, 96, 46, 28, 96, 29, 100, 54, 4, 42, 180, 0, 7, 16, 25, 27, 96, 21, 4]
abbrev dktX3_gets_2 : List UInt8 := dkwX3_gets_2 ++ dktX3_gets_3
def dkwX3_gets_1 : List UInt8 := [180, 0, 7, 16, 35, 27, 96, 46, 62, 42, 180, 0, 7, 16, 35, 27, 96, 92, 46, 29, 100, 79, 42]
abbrev dktX3_gets_1 : List UInt8 := dkwX3_gets_1 ++ dktX3_gets_2
def dkwX3_gets_0 : List UInt8 := [28, 5, 108, 42, 180, 0, 7, 16, 35, 27, 96, 46, 162, 0, 9, 28, 5, 108, 167, 0, 12, 42]
abbrev dktX3_gets_0 : List UInt8 := dkwX3_gets_0 ++ dktX3_gets_1
theorem dksX3_gets_0 : cX3_gets.data.toList.drop 0 = dktX3_gets_0 := by decide +kernel
theorem dksX3_gets_1 : cX3_gets.data.toList.drop 22 = dktX3_gets_1 := dk_seg dksX3_gets_0 22 rfl rfl
theorem dksX3_gets_2 : cX3_gets.data.toList.drop 45 = dktX3_gets_2 := dk_seg dksX3_gets_1 23 rfl rfl
theorem dksX3_gets_3 : cX3_gets.data.toList.drop 69 = dktX3_gets_3 := dk_seg dksX3_gets_2 24 rfl rfl
theorem dX3_gets_0 : decode cX3_gets 0 = .ok (.iload_n 2, 1) := dk_28 (dk_at dksX3_gets_0 0 rfl rfl)
theorem dX3_gets_1 : decode cX3_gets 1 = .ok (.iconst 2, 1) := dk_5 (dk_at dksX3_gets_0 1 rfl rfl)
theorem dX3_gets_2 : decode cX3_gets 2 = .ok (.idiv, 1) := dk_108 (dk_at dksX3_gets_0 2 rfl rfl)
theorem dX3_gets_3 : decode cX3_gets 3 = .ok (.aload_n 0, 1) := dk_42 (dk_at dksX3_gets_0 3 rfl rfl)
theorem dX3_gets_4 : decode cX3_gets 4 = .ok (.getfield 7, 3) := dk_180 0 7 (dk_at dksX3_gets_0 4 rfl rfl)
theorem dX3_gets_7 : decode cX3_gets 7 = .ok (.bipush 35, 2) := dk_16 35 (dk_at dksX3_gets_0 7 rfl rfl)
theorem dX3_gets_9 : decode cX3_gets 9 = .ok (.iload_n 1, 1) := dk_27 (dk_at dksX3_gets_0 9 rfl rfl)
theorem dX3_gets_10 : decode cX3_gets 10 = .ok (.iadd, 1) := dk_96 (dk_at dksX3_gets_0 10 rfl rfl)
theorem dX3_gets_11 : decode cX3_gets 11 = .ok (.iaload, 1) := dk_46 (dk_at dksX3_gets_0 11 rfl rfl)
theorem dX3_gets_12 : decode cX3_gets 12 = .ok (.if_icmp .ge 9, 3) := dk_162 0 9 (dk_at dksX3_gets_0 12 rfl rfl)
theorem dX3_gets_15 : decode cX3_gets 15 = .ok (.iload_n 2, 1) := dk_28 (dk_at dksX3_gets_0 15 rfl rfl)
theorem dX3_gets_16 : decode cX3_gets 16 = .ok (.iconst 2, 1) := dk_5 (dk_at dksX3_gets_0 16 rfl rfl)
theorem dX3_gets_17 : decode cX3_gets 17 = .ok (.idiv, 1) := dk_108 (dk_at dksX3_gets_0 17 rfl rfl)
theorem dX3_gets_18 : decode cX3_gets 18 = .ok (.goto 12, 3) := dk_167 0 12 (dk_at dksX3_gets_0 18 rfl rfl)
theorem dX3_gets_21 : decode cX3_gets 21 = .ok (.aload_n 0, 1) := dk_42 (dk_at dksX3_gets_0 21 rfl rfl)
theorem dX3_gets_22 : decode cX3_gets 22 = .ok (.getfield 7, 3) := dk_180 0 7 (dk_at dksX3_gets_1 0 rfl rfl)
theorem dX3_gets_25 : decode cX3_gets 25 = .ok (.bipush 35, 2) := dk_16 35 (dk_at dksX3_gets_1 3 rfl rfl)
theorem dX3_gets_27 : decode cX3_gets 27 = .ok (.iload_n 1, 1) := dk_27 (dk_at dksX3_gets_1 5 rfl rfl)
theorem dX3_gets_28 : decode cX3_gets 28 = .ok (.iadd, 1) := dk_96 (dk_at dksX3_gets_1 6 rfl rfl)
theorem dX3_gets_29 : decode cX3_gets 29 = .ok (.iaload, 1) := dk_46 (dk_at dksX3_gets_1 7 rfl rfl)
theorem dX3_gets_30 : decode cX3_gets 30 = .ok (.istore_n 3, 1) := dk_62 (dk_at dksX3_gets_1 8 rfl rfl)
theorem dX3_gets_31 : decode cX3_gets 31 = .ok (.aload_n 0, 1) := dk_42 (dk_at dksX3_gets_1 9 rfl rfl)
theorem dX3_gets_32 : decode cX3_gets 32 = .ok (.getfield 7, 3) := dk_180 0 7 (dk_at dksX3_gets_1 10 rfl rfl)
theorem dX3_gets_35 : decode cX3_gets 35 = .ok (.bipush 35, 2) := dk_16 35 (dk_at dksX3_gets_1 13 rfl rfl)
theorem dX3_gets_37 : decode cX3_gets 37 = .ok (.iload_n 1, 1) := dk_27 (dk_at dksX3_gets_1 15 rfl rfl)
theorem dX3_gets_38 : decode cX3_gets 38 = .ok (.iadd, 1) := dk_96 (dk_at dksX3_gets_1 16 rfl rfl)
theorem dX3_gets_39 : decode cX3_gets 39 = .ok (.dup2, 1) := dk_92 (dk_at dksX3_gets_1 17 rfl rfl)
theorem dX3_gets_40 : decode cX3_gets 40 = .ok (.iaload, 1) := dk_46 (dk_at dksX3_gets_1 18 rfl rfl)
theorem dX3_gets_41 : decode cX3_gets 41 = .ok (.iload_n 3, 1) := dk_29 (dk_at dksX3_gets_1 19 rfl rfl)
theorem dX3_gets_42 : decode cX3_gets 42 = .ok (.isub, 1) := dk_100 (dk_at dksX3_gets_1 20 rfl rfl)
theorem dX3_gets_43 : decode cX3_gets 43 = .ok (.iastore, 1) := dk_79 (dk_at dksX3_gets_1 21 rfl rfl)
theorem dX3_gets_44 : decode cX3_gets 44 = .ok (.aload_n 0, 1) := dk_42 (dk_at dksX3_gets_1 22 rfl rfl)
theorem dX3_gets_45 : decode cX3_gets 45 = .ok (.getfield 7, 3) := dk_180 0 7 (dk_at dksX3_gets_2 0 rfl rfl)
theorem dX3_gets_48 : decode cX3_gets 48 = .ok (.bipush 25, 2) := dk_16 25 (dk_at dksX3_gets_2 3 rfl rfl)
theorem dX3_gets_50 : decode cX3_gets 50 = .ok (.iload_n 1, 1) := dk_27 (dk_at dksX3_gets_2 5 rfl rfl)
theorem dX3_gets_51 : decode cX3_gets 51 = .ok (.iadd, 1) := dk_96 (dk_at dksX3_gets_2 6 rfl rfl)
theorem dX3_gets_52 : decode cX3_gets 52 = .ok (.iaload, 1) := dk_46 (dk_at dksX3_gets_2 7 rfl rfl)
theorem dX3_gets_53 : decode cX3_gets 53 = .ok (.iload_n 2, 1) := dk_28 (dk_at dksX3_gets_2 8 rfl rfl)
theorem dX3_gets_54 : decode cX3_gets 54 = .ok (.iadd, 1) := dk_96 (dk_at dksX3_gets_2 9 rfl rfl)
theorem dX3_gets_55 : decode cX3_gets 55 = .ok (.iload_n 3, 1) := dk_29 (dk_at dksX3_gets_2 10 rfl rfl)
theorem dX3_gets_56 : decode cX3_gets 56 = .ok (.isub, 1) := dk_100 (dk_at dksX3_gets_2 11 rfl rfl)
theorem dX3_gets_57 : decode cX3_gets 57 = .ok (.istore 4, 2) := dk_54 4 (dk_at dksX3_gets_2 12 rfl rfl)
theorem dX3_gets_59 : decode cX3_gets 59 = .ok (.aload_n 0, 1) := dk_42 (dk_at dksX3_gets_2 14 rfl rfl)
theorem dX3_gets_60 : decode cX3_gets 60 = .ok (.getfield 7, 3) := dk_180 0 7 (dk_at dksX3_gets_2 15 rfl rfl)
theorem dX3_gets_63 : decode cX3_gets 63 = .ok (.bipush 25, 2) := dk_16 25 (dk_at dksX3_gets_2 18 rfl rfl)
theorem dX3_gets_65 : decode cX3_gets 65 = .ok (.iload_n 1, 1) := dk_27 (dk_at dksX3_gets_2 20 rfl rfl)
theorem dX3_gets_66 : decode cX3_gets 66 = .ok (.iadd, 1) := dk_96 (dk_at dksX3_gets_2 21 rfl rfl)
theorem dX3_gets_67 : decode cX3_gets 67 = .ok (.iload 4, 2) := dk_21 4 (dk_at dksX3_gets_2 22 rfl rfl)
theorem dX3_gets_69 : decode cX3_gets 69 = .ok (.sipush 999, 3) := dk_17 3 231 (dk_at dksX3_gets_3 0 rfl rfl)
theorem dX3_gets_72 : decode cX3_gets 72 = .ok (.if_icmp .le 9, 3) := dk_164 0 9 (dk_at dksX3_gets_3 3 rfl rfl)
theorem dX3_gets_75 : decode cX3_gets 75 = .ok (.sipush 999, 3) := dk_17 3 231 (dk_at dksX3_gets_3 6 rfl rfl)
theorem dX3_gets_78 : decode cX3_gets 78 = .ok (.goto 5, 3) := dk_167 0 5 (dk_at dksX3_gets_3 9 rfl rfl)
theorem dX3_gets_81 : decode cX3_gets 81 = .ok (.iload 4, 2) := dk_21 4 (dk_at dksX3_gets_3 12 rfl rfl)
theorem dX3_gets_83 : decode cX3_gets 83 = .ok (.iastore, 1) := dk_79 (dk_at dksX3_gets_3 14 rfl rfl)
theorem dX3_gets_84 : decode cX3_gets 84 = .ok (.return_, 1) := dk_177 (dk_at dksX3_gets_3 15 rfl rfl)
abbrev cX3_drifted : ByteArray := prog_20_method_18_code
def yX3_drifted : MethodName := ⟨RX3, "drifted", "(II)I"⟩
def dkwX3_drifted_1 : List UInt8 := [167, 0, 4, 28, 172]
abbrev dktX3_drifted_1 : List UInt8 := dkwX3_drifted_1 ++ []
def dkwX3_drifted_0 : List UInt8 := [26, 27, 96, 61, 28, 16, 50, 164, 0, 8, 16, 50, 167, 0, 15, 28, 16, 206, 162, 0, 8, 16, 206]
abbrev dktX3_drifted_0 : List UInt8 := dkwX3_drifted_0 ++ dktX3_drifted_1
theorem dksX3_drifted_0 : cX3_drifted.data.toList.drop 0 = dktX3_drifted_0 := by decide +kernel
theorem dksX3_drifted_1 : cX3_drifted.data.toList.drop 23 = dktX3_drifted_1 := dk_seg dksX3_drifted_0 23 rfl rfl
theorem dX3_drifted_0 : decode cX3_drifted 0 = .ok (.iload_n 0, 1) := dk_26 (dk_at dksX3_drifted_0 0 rfl rfl)
theorem dX3_drifted_1 : decode cX3_drifted 1 = .ok (.iload_n 1, 1) := dk_27 (dk_at dksX3_drifted_0 1 rfl rfl)
theorem dX3_drifted_2 : decode cX3_drifted 2 = .ok (.iadd, 1) := dk_96 (dk_at dksX3_drifted_0 2 rfl rfl)
theorem dX3_drifted_3 : decode cX3_drifted 3 = .ok (.istore_n 2, 1) := dk_61 (dk_at dksX3_drifted_0 3 rfl rfl)
theorem dX3_drifted_4 : decode cX3_drifted 4 = .ok (.iload_n 2, 1) := dk_28 (dk_at dksX3_drifted_0 4 rfl rfl)
theorem dX3_drifted_5 : decode cX3_drifted 5 = .ok (.bipush 50, 2) := dk_16 50 (dk_at dksX3_drifted_0 5 rfl rfl)
theorem dX3_drifted_7 : decode cX3_drifted 7 = .ok (.if_icmp .le 8, 3) := dk_164 0 8 (dk_at dksX3_drifted_0 7 rfl rfl)
theorem dX3_drifted_10 : decode cX3_drifted 10 = .ok (.bipush 50, 2) := dk_16 50 (dk_at dksX3_drifted_0 10 rfl rfl)
theorem dX3_drifted_12 : decode cX3_drifted 12 = .ok (.goto 15, 3) := dk_167 0 15 (dk_at dksX3_drifted_0 12 rfl rfl)
theorem dX3_drifted_15 : decode cX3_drifted 15 = .ok (.iload_n 2, 1) := dk_28 (dk_at dksX3_drifted_0 15 rfl rfl)
theorem dX3_drifted_16 : decode cX3_drifted 16 = .ok (.bipush (-50), 2) := dk_16 206 (dk_at dksX3_drifted_0 16 rfl rfl)
theorem dX3_drifted_18 : decode cX3_drifted 18 = .ok (.if_icmp .ge 8, 3) := dk_162 0 8 (dk_at dksX3_drifted_0 18 rfl rfl)
theorem dX3_drifted_21 : decode cX3_drifted 21 = .ok (.bipush (-50), 2) := dk_16 206 (dk_at dksX3_drifted_0 21 rfl rfl)
theorem dX3_drifted_23 : decode cX3_drifted 23 = .ok (.goto 4, 3) := dk_167 0 4 (dk_at dksX3_drifted_1 0 rfl rfl)
theorem dX3_drifted_26 : decode cX3_drifted 26 = .ok (.iload_n 2, 1) := dk_28 (dk_at dksX3_drifted_1 3 rfl rfl)
theorem dX3_drifted_27 : decode cX3_drifted 27 = .ok (.ireturn, 1) := dk_172 (dk_at dksX3_drifted_1 4 rfl rfl)
abbrev cX3_falseIn : ByteArray := prog_20_method_50_code
def yX3_falseIn : MethodName := ⟨RX3, "falseIn", "(I)I"⟩
def dkwX3_falseIn_3 : List UInt8 := [182, 0, 67, 172]
abbrev dktX3_falseIn_3 : List UInt8 := dkwX3_falseIn_3 ++ []
def dkwX3_falseIn_2 : List UInt8 := [29, 172, 28, 42, 180, 0, 7, 16, 55, 27, 96, 46, 184, 0, 88, 61, 132, 3, 1, 167, 255, 221, 42, 5]
abbrev dktX3_falseIn_2 : List UInt8 := dkwX3_falseIn_2 ++ dktX3_falseIn_3
def dkwX3_falseIn_1 : List UInt8 := [16, 45, 27, 96, 46, 61, 3, 62, 29, 16, 60, 163, 0, 35, 28, 16, 252, 7, 184, 0, 70, 154, 0, 5]
abbrev dktX3_falseIn_1 : List UInt8 := dkwX3_falseIn_1 ++ dktX3_falseIn_2
def dkwX3_falseIn_0 : List UInt8 := [42, 3, 181, 0, 41, 42, 27, 182, 0, 116, 154, 0, 9, 42, 4, 182, 0, 67, 172, 42, 180, 0, 7]
abbrev dktX3_falseIn_0 : List UInt8 := dkwX3_falseIn_0 ++ dktX3_falseIn_1
theorem dksX3_falseIn_0 : cX3_falseIn.data.toList.drop 0 = dktX3_falseIn_0 := by decide +kernel
theorem dksX3_falseIn_1 : cX3_falseIn.data.toList.drop 23 = dktX3_falseIn_1 := dk_seg dksX3_falseIn_0 23 rfl rfl
theorem dksX3_falseIn_2 : cX3_falseIn.data.toList.drop 47 = dktX3_falseIn_2 := dk_seg dksX3_falseIn_1 24 rfl rfl
theorem dksX3_falseIn_3 : cX3_falseIn.data.toList.drop 71 = dktX3_falseIn_3 := dk_seg dksX3_falseIn_2 24 rfl rfl
theorem dX3_falseIn_0 : decode cX3_falseIn 0 = .ok (.aload_n 0, 1) := dk_42 (dk_at dksX3_falseIn_0 0 rfl rfl)
theorem dX3_falseIn_1 : decode cX3_falseIn 1 = .ok (.iconst 0, 1) := dk_3 (dk_at dksX3_falseIn_0 1 rfl rfl)
theorem dX3_falseIn_2 : decode cX3_falseIn 2 = .ok (.putfield 41, 3) := dk_181 0 41 (dk_at dksX3_falseIn_0 2 rfl rfl)
theorem dX3_falseIn_5 : decode cX3_falseIn 5 = .ok (.aload_n 0, 1) := dk_42 (dk_at dksX3_falseIn_0 5 rfl rfl)
theorem dX3_falseIn_6 : decode cX3_falseIn 6 = .ok (.iload_n 1, 1) := dk_27 (dk_at dksX3_falseIn_0 6 rfl rfl)
theorem dX3_falseIn_7 : decode cX3_falseIn 7 = .ok (.invokevirtual 116, 3) := dk_182 0 116 (dk_at dksX3_falseIn_0 7 rfl rfl)
theorem dX3_falseIn_10 : decode cX3_falseIn 10 = .ok (.ifCond .ne 9, 3) := dk_154 0 9 (dk_at dksX3_falseIn_0 10 rfl rfl)
theorem dX3_falseIn_13 : decode cX3_falseIn 13 = .ok (.aload_n 0, 1) := dk_42 (dk_at dksX3_falseIn_0 13 rfl rfl)
theorem dX3_falseIn_14 : decode cX3_falseIn 14 = .ok (.iconst 1, 1) := dk_4 (dk_at dksX3_falseIn_0 14 rfl rfl)
theorem dX3_falseIn_15 : decode cX3_falseIn 15 = .ok (.invokevirtual 67, 3) := dk_182 0 67 (dk_at dksX3_falseIn_0 15 rfl rfl)
theorem dX3_falseIn_18 : decode cX3_falseIn 18 = .ok (.ireturn, 1) := dk_172 (dk_at dksX3_falseIn_0 18 rfl rfl)
theorem dX3_falseIn_19 : decode cX3_falseIn 19 = .ok (.aload_n 0, 1) := dk_42 (dk_at dksX3_falseIn_0 19 rfl rfl)
theorem dX3_falseIn_20 : decode cX3_falseIn 20 = .ok (.getfield 7, 3) := dk_180 0 7 (dk_at dksX3_falseIn_0 20 rfl rfl)
theorem dX3_falseIn_23 : decode cX3_falseIn 23 = .ok (.bipush 45, 2) := dk_16 45 (dk_at dksX3_falseIn_1 0 rfl rfl)
theorem dX3_falseIn_25 : decode cX3_falseIn 25 = .ok (.iload_n 1, 1) := dk_27 (dk_at dksX3_falseIn_1 2 rfl rfl)
theorem dX3_falseIn_26 : decode cX3_falseIn 26 = .ok (.iadd, 1) := dk_96 (dk_at dksX3_falseIn_1 3 rfl rfl)
theorem dX3_falseIn_27 : decode cX3_falseIn 27 = .ok (.iaload, 1) := dk_46 (dk_at dksX3_falseIn_1 4 rfl rfl)
theorem dX3_falseIn_28 : decode cX3_falseIn 28 = .ok (.istore_n 2, 1) := dk_61 (dk_at dksX3_falseIn_1 5 rfl rfl)
theorem dX3_falseIn_29 : decode cX3_falseIn 29 = .ok (.iconst 0, 1) := dk_3 (dk_at dksX3_falseIn_1 6 rfl rfl)
theorem dX3_falseIn_30 : decode cX3_falseIn 30 = .ok (.istore_n 3, 1) := dk_62 (dk_at dksX3_falseIn_1 7 rfl rfl)
theorem dX3_falseIn_31 : decode cX3_falseIn 31 = .ok (.iload_n 3, 1) := dk_29 (dk_at dksX3_falseIn_1 8 rfl rfl)
theorem dX3_falseIn_32 : decode cX3_falseIn 32 = .ok (.bipush 60, 2) := dk_16 60 (dk_at dksX3_falseIn_1 9 rfl rfl)
theorem dX3_falseIn_34 : decode cX3_falseIn 34 = .ok (.if_icmp .gt 35, 3) := dk_163 0 35 (dk_at dksX3_falseIn_1 11 rfl rfl)
theorem dX3_falseIn_37 : decode cX3_falseIn 37 = .ok (.iload_n 2, 1) := dk_28 (dk_at dksX3_falseIn_1 14 rfl rfl)
theorem dX3_falseIn_38 : decode cX3_falseIn 38 = .ok (.bipush (-4), 2) := dk_16 252 (dk_at dksX3_falseIn_1 15 rfl rfl)
theorem dX3_falseIn_40 : decode cX3_falseIn 40 = .ok (.iconst 4, 1) := dk_7 (dk_at dksX3_falseIn_1 17 rfl rfl)
theorem dX3_falseIn_41 : decode cX3_falseIn 41 = .ok (.invokestatic 70, 3) := dk_184 0 70 (dk_at dksX3_falseIn_1 18 rfl rfl)
theorem dX3_falseIn_44 : decode cX3_falseIn 44 = .ok (.ifCond .ne 5, 3) := dk_154 0 5 (dk_at dksX3_falseIn_1 21 rfl rfl)
theorem dX3_falseIn_47 : decode cX3_falseIn 47 = .ok (.iload_n 3, 1) := dk_29 (dk_at dksX3_falseIn_2 0 rfl rfl)
theorem dX3_falseIn_48 : decode cX3_falseIn 48 = .ok (.ireturn, 1) := dk_172 (dk_at dksX3_falseIn_2 1 rfl rfl)
theorem dX3_falseIn_49 : decode cX3_falseIn 49 = .ok (.iload_n 2, 1) := dk_28 (dk_at dksX3_falseIn_2 2 rfl rfl)
theorem dX3_falseIn_50 : decode cX3_falseIn 50 = .ok (.aload_n 0, 1) := dk_42 (dk_at dksX3_falseIn_2 3 rfl rfl)
theorem dX3_falseIn_51 : decode cX3_falseIn 51 = .ok (.getfield 7, 3) := dk_180 0 7 (dk_at dksX3_falseIn_2 4 rfl rfl)
theorem dX3_falseIn_54 : decode cX3_falseIn 54 = .ok (.bipush 55, 2) := dk_16 55 (dk_at dksX3_falseIn_2 7 rfl rfl)
theorem dX3_falseIn_56 : decode cX3_falseIn 56 = .ok (.iload_n 1, 1) := dk_27 (dk_at dksX3_falseIn_2 9 rfl rfl)
theorem dX3_falseIn_57 : decode cX3_falseIn 57 = .ok (.iadd, 1) := dk_96 (dk_at dksX3_falseIn_2 10 rfl rfl)
theorem dX3_falseIn_58 : decode cX3_falseIn 58 = .ok (.iaload, 1) := dk_46 (dk_at dksX3_falseIn_2 11 rfl rfl)
theorem dX3_falseIn_59 : decode cX3_falseIn 59 = .ok (.invokestatic 88, 3) := dk_184 0 88 (dk_at dksX3_falseIn_2 12 rfl rfl)
theorem dX3_falseIn_62 : decode cX3_falseIn 62 = .ok (.istore_n 2, 1) := dk_61 (dk_at dksX3_falseIn_2 15 rfl rfl)
theorem dX3_falseIn_63 : decode cX3_falseIn 63 = .ok (.iinc 3 1, 3) := dk_132 3 1 (dk_at dksX3_falseIn_2 16 rfl rfl)
theorem dX3_falseIn_66 : decode cX3_falseIn 66 = .ok (.goto (-35), 3) := dk_167 255 221 (dk_at dksX3_falseIn_2 19 rfl rfl)
theorem dX3_falseIn_69 : decode cX3_falseIn 69 = .ok (.aload_n 0, 1) := dk_42 (dk_at dksX3_falseIn_2 22 rfl rfl)
theorem dX3_falseIn_70 : decode cX3_falseIn 70 = .ok (.iconst 2, 1) := dk_5 (dk_at dksX3_falseIn_2 23 rfl rfl)
theorem dX3_falseIn_71 : decode cX3_falseIn 71 = .ok (.invokevirtual 67, 3) := dk_182 0 67 (dk_at dksX3_falseIn_3 0 rfl rfl)
theorem dX3_falseIn_74 : decode cX3_falseIn 74 = .ok (.ireturn, 1) := dk_172 (dk_at dksX3_falseIn_3 3 rfl rfl)
abbrev cX3_loss : ByteArray := prog_20_method_51_code
def yX3_loss : MethodName := ⟨RX3, "loss", "(I)I"⟩
def dkwX3_loss_1 : List UInt8 := [182, 0, 67, 172]
abbrev dktX3_loss_1 : List UInt8 := dkwX3_loss_1 ++ []
def dkwX3_loss_0 : List UInt8 := [42, 3, 181, 0, 41, 42, 27, 182, 0, 116, 153, 0, 11, 42, 27, 182, 0, 82, 167, 0, 8, 42, 4]
abbrev dktX3_loss_0 : List UInt8 := dkwX3_loss_0 ++ dktX3_loss_1
theorem dksX3_loss_0 : cX3_loss.data.toList.drop 0 = dktX3_loss_0 := by decide +kernel
theorem dksX3_loss_1 : cX3_loss.data.toList.drop 23 = dktX3_loss_1 := dk_seg dksX3_loss_0 23 rfl rfl
theorem dX3_loss_0 : decode cX3_loss 0 = .ok (.aload_n 0, 1) := dk_42 (dk_at dksX3_loss_0 0 rfl rfl)
theorem dX3_loss_1 : decode cX3_loss 1 = .ok (.iconst 0, 1) := dk_3 (dk_at dksX3_loss_0 1 rfl rfl)
theorem dX3_loss_2 : decode cX3_loss 2 = .ok (.putfield 41, 3) := dk_181 0 41 (dk_at dksX3_loss_0 2 rfl rfl)
theorem dX3_loss_5 : decode cX3_loss 5 = .ok (.aload_n 0, 1) := dk_42 (dk_at dksX3_loss_0 5 rfl rfl)
theorem dX3_loss_6 : decode cX3_loss 6 = .ok (.iload_n 1, 1) := dk_27 (dk_at dksX3_loss_0 6 rfl rfl)
theorem dX3_loss_7 : decode cX3_loss 7 = .ok (.invokevirtual 116, 3) := dk_182 0 116 (dk_at dksX3_loss_0 7 rfl rfl)
theorem dX3_loss_10 : decode cX3_loss 10 = .ok (.ifCond .eq 11, 3) := dk_153 0 11 (dk_at dksX3_loss_0 10 rfl rfl)
theorem dX3_loss_13 : decode cX3_loss 13 = .ok (.aload_n 0, 1) := dk_42 (dk_at dksX3_loss_0 13 rfl rfl)
theorem dX3_loss_14 : decode cX3_loss 14 = .ok (.iload_n 1, 1) := dk_27 (dk_at dksX3_loss_0 14 rfl rfl)
theorem dX3_loss_15 : decode cX3_loss 15 = .ok (.invokevirtual 82, 3) := dk_182 0 82 (dk_at dksX3_loss_0 15 rfl rfl)
theorem dX3_loss_18 : decode cX3_loss 18 = .ok (.goto 8, 3) := dk_167 0 8 (dk_at dksX3_loss_0 18 rfl rfl)
theorem dX3_loss_21 : decode cX3_loss 21 = .ok (.aload_n 0, 1) := dk_42 (dk_at dksX3_loss_0 21 rfl rfl)
theorem dX3_loss_22 : decode cX3_loss 22 = .ok (.iconst 1, 1) := dk_4 (dk_at dksX3_loss_0 22 rfl rfl)
theorem dX3_loss_23 : decode cX3_loss 23 = .ok (.invokevirtual 67, 3) := dk_182 0 67 (dk_at dksX3_loss_1 0 rfl rfl)
theorem dX3_loss_26 : decode cX3_loss 26 = .ok (.ireturn, 1) := dk_172 (dk_at dksX3_loss_1 3 rfl rfl)
abbrev cX3_lossAgain : ByteArray := prog_20_method_52_code
def yX3_lossAgain : MethodName := ⟨RX3, "lossAgain", "(I)I"⟩
def dkwX3_lossAgain_0 : List UInt8 := [42, 27, 182, 0, 149, 172]
abbrev dktX3_lossAgain_0 : List UInt8 := dkwX3_lossAgain_0 ++ []
theorem dksX3_lossAgain_0 : cX3_lossAgain.data.toList.drop 0 = dktX3_lossAgain_0 := by decide +kernel
theorem dX3_lossAgain_0 : decode cX3_lossAgain 0 = .ok (.aload_n 0, 1) := dk_42 (dk_at dksX3_lossAgain_0 0 rfl rfl)
theorem dX3_lossAgain_1 : decode cX3_lossAgain 1 = .ok (.iload_n 1, 1) := dk_27 (dk_at dksX3_lossAgain_0 1 rfl rfl)
theorem dX3_lossAgain_2 : decode cX3_lossAgain 2 = .ok (.invokevirtual 149, 3) := dk_182 0 149 (dk_at dksX3_lossAgain_0 2 rfl rfl)
theorem dX3_lossAgain_5 : decode cX3_lossAgain 5 = .ok (.ireturn, 1) := dk_172 (dk_at dksX3_lossAgain_0 5 rfl rfl)
abbrev cX3_type : ByteArray := prog_20_method_53_code
def yX3_type : MethodName := ⟨RX3, "type", "(C)I"⟩
def dkwX3_type_1 : List UInt8 := [42, 180, 0, 152, 27, 79, 42, 89, 180, 0, 152, 4, 96, 181, 0, 152, 42, 180, 0, 152, 172]
abbrev dktX3_type_1 : List UInt8 := dkwX3_type_1 ++ []
def dkwX3_type_0 : List UInt8 := [42, 3, 181, 0, 41, 42, 180, 0, 152, 16, 60, 160, 0, 9, 42, 4, 182, 0, 67, 172, 42, 180, 0, 22]
abbrev dktX3_type_0 : List UInt8 := dkwX3_type_0 ++ dktX3_type_1
theorem dksX3_type_0 : cX3_type.data.toList.drop 0 = dktX3_type_0 := by decide +kernel
theorem dksX3_type_1 : cX3_type.data.toList.drop 24 = dktX3_type_1 := dk_seg dksX3_type_0 24 rfl rfl
theorem dX3_type_0 : decode cX3_type 0 = .ok (.aload_n 0, 1) := dk_42 (dk_at dksX3_type_0 0 rfl rfl)
theorem dX3_type_1 : decode cX3_type 1 = .ok (.iconst 0, 1) := dk_3 (dk_at dksX3_type_0 1 rfl rfl)
theorem dX3_type_2 : decode cX3_type 2 = .ok (.putfield 41, 3) := dk_181 0 41 (dk_at dksX3_type_0 2 rfl rfl)
theorem dX3_type_5 : decode cX3_type 5 = .ok (.aload_n 0, 1) := dk_42 (dk_at dksX3_type_0 5 rfl rfl)
theorem dX3_type_6 : decode cX3_type 6 = .ok (.getfield 152, 3) := dk_180 0 152 (dk_at dksX3_type_0 6 rfl rfl)
theorem dX3_type_9 : decode cX3_type 9 = .ok (.bipush 60, 2) := dk_16 60 (dk_at dksX3_type_0 9 rfl rfl)
theorem dX3_type_11 : decode cX3_type 11 = .ok (.if_icmp .ne 9, 3) := dk_160 0 9 (dk_at dksX3_type_0 11 rfl rfl)
theorem dX3_type_14 : decode cX3_type 14 = .ok (.aload_n 0, 1) := dk_42 (dk_at dksX3_type_0 14 rfl rfl)
theorem dX3_type_15 : decode cX3_type 15 = .ok (.iconst 1, 1) := dk_4 (dk_at dksX3_type_0 15 rfl rfl)
theorem dX3_type_16 : decode cX3_type 16 = .ok (.invokevirtual 67, 3) := dk_182 0 67 (dk_at dksX3_type_0 16 rfl rfl)
theorem dX3_type_19 : decode cX3_type 19 = .ok (.ireturn, 1) := dk_172 (dk_at dksX3_type_0 19 rfl rfl)
theorem dX3_type_20 : decode cX3_type 20 = .ok (.aload_n 0, 1) := dk_42 (dk_at dksX3_type_0 20 rfl rfl)
theorem dX3_type_21 : decode cX3_type 21 = .ok (.getfield 22, 3) := dk_180 0 22 (dk_at dksX3_type_0 21 rfl rfl)
theorem dX3_type_24 : decode cX3_type 24 = .ok (.aload_n 0, 1) := dk_42 (dk_at dksX3_type_1 0 rfl rfl)
theorem dX3_type_25 : decode cX3_type 25 = .ok (.getfield 152, 3) := dk_180 0 152 (dk_at dksX3_type_1 1 rfl rfl)
theorem dX3_type_28 : decode cX3_type 28 = .ok (.iload_n 1, 1) := dk_27 (dk_at dksX3_type_1 4 rfl rfl)
theorem dX3_type_29 : decode cX3_type 29 = .ok (.iastore, 1) := dk_79 (dk_at dksX3_type_1 5 rfl rfl)
theorem dX3_type_30 : decode cX3_type 30 = .ok (.aload_n 0, 1) := dk_42 (dk_at dksX3_type_1 6 rfl rfl)
theorem dX3_type_31 : decode cX3_type 31 = .ok (.dup, 1) := dk_89 (dk_at dksX3_type_1 7 rfl rfl)
theorem dX3_type_32 : decode cX3_type 32 = .ok (.getfield 152, 3) := dk_180 0 152 (dk_at dksX3_type_1 8 rfl rfl)
theorem dX3_type_35 : decode cX3_type 35 = .ok (.iconst 1, 1) := dk_4 (dk_at dksX3_type_1 11 rfl rfl)
theorem dX3_type_36 : decode cX3_type 36 = .ok (.iadd, 1) := dk_96 (dk_at dksX3_type_1 12 rfl rfl)
theorem dX3_type_37 : decode cX3_type 37 = .ok (.putfield 152, 3) := dk_181 0 152 (dk_at dksX3_type_1 13 rfl rfl)
theorem dX3_type_40 : decode cX3_type 40 = .ok (.aload_n 0, 1) := dk_42 (dk_at dksX3_type_1 16 rfl rfl)
theorem dX3_type_41 : decode cX3_type 41 = .ok (.getfield 152, 3) := dk_180 0 152 (dk_at dksX3_type_1 17 rfl rfl)
theorem dX3_type_44 : decode cX3_type 44 = .ok (.ireturn, 1) := dk_172 (dk_at dksX3_type_1 20 rfl rfl)
abbrev cX3_read : ByteArray := prog_20_method_61_code
def yX3_read : MethodName := ⟨RX3, "read", "()I"⟩
def dkwX3_read_8 : List UInt8 := [180, 0, 180, 182, 0, 59, 172]
abbrev dktX3_read_8 : List UInt8 := dkwX3_read_8 ++ []
def dkwX3_read_7 : List UInt8 := [16, 11, 79, 42, 180, 0, 34, 3, 27, 79, 42, 5, 182, 0, 67, 172, 132, 1, 1, 167, 255, 182, 42, 42]
abbrev dktX3_read_7 : List UInt8 := dkwX3_read_7 ++ dktX3_read_8
def dkwX3_read_6 : List UInt8 := [180, 0, 13, 29, 46, 79, 132, 3, 1, 167, 255, 235, 42, 4, 28, 182, 0, 63, 42, 180, 0, 31, 3]
abbrev dktX3_read_6 : List UInt8 := dkwX3_read_6 ++ dktX3_read_7
def dkwX3_read_5 : List UInt8 := [182, 0, 219, 61, 28, 158, 0, 56, 3, 62, 29, 16, 117, 162, 0, 21, 42, 180, 0, 7, 29, 42]
abbrev dktX3_read_5 : List UInt8 := dkwX3_read_5 ++ dktX3_read_6
def dkwX3_read_4 : List UInt8 := [180, 0, 155, 181, 0, 37, 42, 4, 182, 0, 67, 172, 3, 60, 27, 42, 180, 0, 180, 162, 0, 72, 42, 27]
abbrev dktX3_read_4 : List UInt8 := dkwX3_read_4 ++ dktX3_read_5
def dkwX3_read_3 : List UInt8 := [167, 255, 226, 42, 180, 0, 161, 154, 0, 14, 42, 180, 0, 155, 42, 180, 0, 158, 162, 0, 17, 42, 42]
abbrev dktX3_read_3 : List UInt8 := dkwX3_read_3 ++ dktX3_read_4
def dkwX3_read_2 : List UInt8 := [42, 182, 0, 165, 16, 59, 160, 0, 20, 42, 89, 180, 0, 155, 4, 96, 181, 0, 155, 42, 182, 0, 216]
abbrev dktX3_read_2 : List UInt8 := dkwX3_read_2 ++ dktX3_read_3
def dkwX3_read_1 : List UInt8 := [181, 0, 152, 42, 3, 181, 0, 180, 42, 3, 181, 0, 161, 42, 182, 0, 216, 42, 180, 0, 161, 154, 0, 29]
abbrev dktX3_read_1 : List UInt8 := dkwX3_read_1 ++ dktX3_read_2
def dkwX3_read_0 : List UInt8 := [42, 3, 181, 0, 41, 42, 182, 0, 107, 42, 3, 181, 0, 155, 42, 42, 180, 0, 152, 181, 0, 158, 42, 3]
abbrev dktX3_read_0 : List UInt8 := dkwX3_read_0 ++ dktX3_read_1
theorem dksX3_read_0 : cX3_read.data.toList.drop 0 = dktX3_read_0 := by decide +kernel
theorem dksX3_read_1 : cX3_read.data.toList.drop 24 = dktX3_read_1 := dk_seg dksX3_read_0 24 rfl rfl
theorem dksX3_read_2 : cX3_read.data.toList.drop 48 = dktX3_read_2 := dk_seg dksX3_read_1 24 rfl rfl
theorem dksX3_read_3 : cX3_read.data.toList.drop 71 = dktX3_read_3 := dk_seg dksX3_read_2 23 rfl rfl
theorem dksX3_read_4 : cX3_read.data.toList.drop 94 = dktX3_read_4 := dk_seg dksX3_read_3 23 rfl rfl
theorem dksX3_read_5 : cX3_read.data.toList.drop 118 = dktX3_read_5 := dk_seg dksX3_read_4 24 rfl rfl
theorem dksX3_read_6 : cX3_read.data.toList.drop 140 = dktX3_read_6 := dk_seg dksX3_read_5 22 rfl rfl
theorem dksX3_read_7 : cX3_read.data.toList.drop 163 = dktX3_read_7 := dk_seg dksX3_read_6 23 rfl rfl
theorem dksX3_read_8 : cX3_read.data.toList.drop 187 = dktX3_read_8 := dk_seg dksX3_read_7 24 rfl rfl
theorem dX3_read_0 : decode cX3_read 0 = .ok (.aload_n 0, 1) := dk_42 (dk_at dksX3_read_0 0 rfl rfl)
theorem dX3_read_1 : decode cX3_read 1 = .ok (.iconst 0, 1) := dk_3 (dk_at dksX3_read_0 1 rfl rfl)
theorem dX3_read_2 : decode cX3_read 2 = .ok (.putfield 41, 3) := dk_181 0 41 (dk_at dksX3_read_0 2 rfl rfl)
theorem dX3_read_5 : decode cX3_read 5 = .ok (.aload_n 0, 1) := dk_42 (dk_at dksX3_read_0 5 rfl rfl)
theorem dX3_read_6 : decode cX3_read 6 = .ok (.invokevirtual 107, 3) := dk_182 0 107 (dk_at dksX3_read_0 6 rfl rfl)
theorem dX3_read_9 : decode cX3_read 9 = .ok (.aload_n 0, 1) := dk_42 (dk_at dksX3_read_0 9 rfl rfl)
theorem dX3_read_10 : decode cX3_read 10 = .ok (.iconst 0, 1) := dk_3 (dk_at dksX3_read_0 10 rfl rfl)
theorem dX3_read_11 : decode cX3_read 11 = .ok (.putfield 155, 3) := dk_181 0 155 (dk_at dksX3_read_0 11 rfl rfl)
theorem dX3_read_14 : decode cX3_read 14 = .ok (.aload_n 0, 1) := dk_42 (dk_at dksX3_read_0 14 rfl rfl)
theorem dX3_read_15 : decode cX3_read 15 = .ok (.aload_n 0, 1) := dk_42 (dk_at dksX3_read_0 15 rfl rfl)
theorem dX3_read_16 : decode cX3_read 16 = .ok (.getfield 152, 3) := dk_180 0 152 (dk_at dksX3_read_0 16 rfl rfl)
theorem dX3_read_19 : decode cX3_read 19 = .ok (.putfield 158, 3) := dk_181 0 158 (dk_at dksX3_read_0 19 rfl rfl)
theorem dX3_read_22 : decode cX3_read 22 = .ok (.aload_n 0, 1) := dk_42 (dk_at dksX3_read_0 22 rfl rfl)
theorem dX3_read_23 : decode cX3_read 23 = .ok (.iconst 0, 1) := dk_3 (dk_at dksX3_read_0 23 rfl rfl)
theorem dX3_read_24 : decode cX3_read 24 = .ok (.putfield 152, 3) := dk_181 0 152 (dk_at dksX3_read_1 0 rfl rfl)
theorem dX3_read_27 : decode cX3_read 27 = .ok (.aload_n 0, 1) := dk_42 (dk_at dksX3_read_1 3 rfl rfl)
theorem dX3_read_28 : decode cX3_read 28 = .ok (.iconst 0, 1) := dk_3 (dk_at dksX3_read_1 4 rfl rfl)
theorem dX3_read_29 : decode cX3_read 29 = .ok (.putfield 180, 3) := dk_181 0 180 (dk_at dksX3_read_1 5 rfl rfl)
theorem dX3_read_32 : decode cX3_read 32 = .ok (.aload_n 0, 1) := dk_42 (dk_at dksX3_read_1 8 rfl rfl)
theorem dX3_read_33 : decode cX3_read 33 = .ok (.iconst 0, 1) := dk_3 (dk_at dksX3_read_1 9 rfl rfl)
theorem dX3_read_34 : decode cX3_read 34 = .ok (.putfield 161, 3) := dk_181 0 161 (dk_at dksX3_read_1 10 rfl rfl)
theorem dX3_read_37 : decode cX3_read 37 = .ok (.aload_n 0, 1) := dk_42 (dk_at dksX3_read_1 13 rfl rfl)
theorem dX3_read_38 : decode cX3_read 38 = .ok (.invokevirtual 216, 3) := dk_182 0 216 (dk_at dksX3_read_1 14 rfl rfl)
theorem dX3_read_41 : decode cX3_read 41 = .ok (.aload_n 0, 1) := dk_42 (dk_at dksX3_read_1 17 rfl rfl)
theorem dX3_read_42 : decode cX3_read 42 = .ok (.getfield 161, 3) := dk_180 0 161 (dk_at dksX3_read_1 18 rfl rfl)
theorem dX3_read_45 : decode cX3_read 45 = .ok (.ifCond .ne 29, 3) := dk_154 0 29 (dk_at dksX3_read_1 21 rfl rfl)
theorem dX3_read_48 : decode cX3_read 48 = .ok (.aload_n 0, 1) := dk_42 (dk_at dksX3_read_2 0 rfl rfl)
theorem dX3_read_49 : decode cX3_read 49 = .ok (.invokevirtual 165, 3) := dk_182 0 165 (dk_at dksX3_read_2 1 rfl rfl)
theorem dX3_read_52 : decode cX3_read 52 = .ok (.bipush 59, 2) := dk_16 59 (dk_at dksX3_read_2 4 rfl rfl)
theorem dX3_read_54 : decode cX3_read 54 = .ok (.if_icmp .ne 20, 3) := dk_160 0 20 (dk_at dksX3_read_2 6 rfl rfl)
theorem dX3_read_57 : decode cX3_read 57 = .ok (.aload_n 0, 1) := dk_42 (dk_at dksX3_read_2 9 rfl rfl)
theorem dX3_read_58 : decode cX3_read 58 = .ok (.dup, 1) := dk_89 (dk_at dksX3_read_2 10 rfl rfl)
theorem dX3_read_59 : decode cX3_read 59 = .ok (.getfield 155, 3) := dk_180 0 155 (dk_at dksX3_read_2 11 rfl rfl)
theorem dX3_read_62 : decode cX3_read 62 = .ok (.iconst 1, 1) := dk_4 (dk_at dksX3_read_2 14 rfl rfl)
theorem dX3_read_63 : decode cX3_read 63 = .ok (.iadd, 1) := dk_96 (dk_at dksX3_read_2 15 rfl rfl)
theorem dX3_read_64 : decode cX3_read 64 = .ok (.putfield 155, 3) := dk_181 0 155 (dk_at dksX3_read_2 16 rfl rfl)
theorem dX3_read_67 : decode cX3_read 67 = .ok (.aload_n 0, 1) := dk_42 (dk_at dksX3_read_2 19 rfl rfl)
theorem dX3_read_68 : decode cX3_read 68 = .ok (.invokevirtual 216, 3) := dk_182 0 216 (dk_at dksX3_read_2 20 rfl rfl)
theorem dX3_read_71 : decode cX3_read 71 = .ok (.goto (-30), 3) := dk_167 255 226 (dk_at dksX3_read_3 0 rfl rfl)
theorem dX3_read_74 : decode cX3_read 74 = .ok (.aload_n 0, 1) := dk_42 (dk_at dksX3_read_3 3 rfl rfl)
theorem dX3_read_75 : decode cX3_read 75 = .ok (.getfield 161, 3) := dk_180 0 161 (dk_at dksX3_read_3 4 rfl rfl)
theorem dX3_read_78 : decode cX3_read 78 = .ok (.ifCond .ne 14, 3) := dk_154 0 14 (dk_at dksX3_read_3 7 rfl rfl)
theorem dX3_read_81 : decode cX3_read 81 = .ok (.aload_n 0, 1) := dk_42 (dk_at dksX3_read_3 10 rfl rfl)
theorem dX3_read_82 : decode cX3_read 82 = .ok (.getfield 155, 3) := dk_180 0 155 (dk_at dksX3_read_3 11 rfl rfl)
theorem dX3_read_85 : decode cX3_read 85 = .ok (.aload_n 0, 1) := dk_42 (dk_at dksX3_read_3 14 rfl rfl)
theorem dX3_read_86 : decode cX3_read 86 = .ok (.getfield 158, 3) := dk_180 0 158 (dk_at dksX3_read_3 15 rfl rfl)
theorem dX3_read_89 : decode cX3_read 89 = .ok (.if_icmp .ge 17, 3) := dk_162 0 17 (dk_at dksX3_read_3 18 rfl rfl)
theorem dX3_read_92 : decode cX3_read 92 = .ok (.aload_n 0, 1) := dk_42 (dk_at dksX3_read_3 21 rfl rfl)
theorem dX3_read_93 : decode cX3_read 93 = .ok (.aload_n 0, 1) := dk_42 (dk_at dksX3_read_3 22 rfl rfl)
theorem dX3_read_94 : decode cX3_read 94 = .ok (.getfield 155, 3) := dk_180 0 155 (dk_at dksX3_read_4 0 rfl rfl)
theorem dX3_read_97 : decode cX3_read 97 = .ok (.putfield 37, 3) := dk_181 0 37 (dk_at dksX3_read_4 3 rfl rfl)
theorem dX3_read_100 : decode cX3_read 100 = .ok (.aload_n 0, 1) := dk_42 (dk_at dksX3_read_4 6 rfl rfl)
theorem dX3_read_101 : decode cX3_read 101 = .ok (.iconst 1, 1) := dk_4 (dk_at dksX3_read_4 7 rfl rfl)
theorem dX3_read_102 : decode cX3_read 102 = .ok (.invokevirtual 67, 3) := dk_182 0 67 (dk_at dksX3_read_4 8 rfl rfl)
theorem dX3_read_105 : decode cX3_read 105 = .ok (.ireturn, 1) := dk_172 (dk_at dksX3_read_4 11 rfl rfl)
theorem dX3_read_106 : decode cX3_read 106 = .ok (.iconst 0, 1) := dk_3 (dk_at dksX3_read_4 12 rfl rfl)
theorem dX3_read_107 : decode cX3_read 107 = .ok (.istore_n 1, 1) := dk_60 (dk_at dksX3_read_4 13 rfl rfl)
theorem dX3_read_108 : decode cX3_read 108 = .ok (.iload_n 1, 1) := dk_27 (dk_at dksX3_read_4 14 rfl rfl)
theorem dX3_read_109 : decode cX3_read 109 = .ok (.aload_n 0, 1) := dk_42 (dk_at dksX3_read_4 15 rfl rfl)
theorem dX3_read_110 : decode cX3_read 110 = .ok (.getfield 180, 3) := dk_180 0 180 (dk_at dksX3_read_4 16 rfl rfl)
theorem dX3_read_113 : decode cX3_read 113 = .ok (.if_icmp .ge 72, 3) := dk_162 0 72 (dk_at dksX3_read_4 19 rfl rfl)
theorem dX3_read_116 : decode cX3_read 116 = .ok (.aload_n 0, 1) := dk_42 (dk_at dksX3_read_4 22 rfl rfl)
theorem dX3_read_117 : decode cX3_read 117 = .ok (.iload_n 1, 1) := dk_27 (dk_at dksX3_read_4 23 rfl rfl)
theorem dX3_read_118 : decode cX3_read 118 = .ok (.invokevirtual 219, 3) := dk_182 0 219 (dk_at dksX3_read_5 0 rfl rfl)
theorem dX3_read_121 : decode cX3_read 121 = .ok (.istore_n 2, 1) := dk_61 (dk_at dksX3_read_5 3 rfl rfl)
theorem dX3_read_122 : decode cX3_read 122 = .ok (.iload_n 2, 1) := dk_28 (dk_at dksX3_read_5 4 rfl rfl)
theorem dX3_read_123 : decode cX3_read 123 = .ok (.ifCond .le 56, 3) := dk_158 0 56 (dk_at dksX3_read_5 5 rfl rfl)
theorem dX3_read_126 : decode cX3_read 126 = .ok (.iconst 0, 1) := dk_3 (dk_at dksX3_read_5 8 rfl rfl)
theorem dX3_read_127 : decode cX3_read 127 = .ok (.istore_n 3, 1) := dk_62 (dk_at dksX3_read_5 9 rfl rfl)
theorem dX3_read_128 : decode cX3_read 128 = .ok (.iload_n 3, 1) := dk_29 (dk_at dksX3_read_5 10 rfl rfl)
theorem dX3_read_129 : decode cX3_read 129 = .ok (.bipush 117, 2) := dk_16 117 (dk_at dksX3_read_5 11 rfl rfl)
theorem dX3_read_131 : decode cX3_read 131 = .ok (.if_icmp .ge 21, 3) := dk_162 0 21 (dk_at dksX3_read_5 13 rfl rfl)
theorem dX3_read_134 : decode cX3_read 134 = .ok (.aload_n 0, 1) := dk_42 (dk_at dksX3_read_5 16 rfl rfl)
theorem dX3_read_135 : decode cX3_read 135 = .ok (.getfield 7, 3) := dk_180 0 7 (dk_at dksX3_read_5 17 rfl rfl)
theorem dX3_read_138 : decode cX3_read 138 = .ok (.iload_n 3, 1) := dk_29 (dk_at dksX3_read_5 20 rfl rfl)
theorem dX3_read_139 : decode cX3_read 139 = .ok (.aload_n 0, 1) := dk_42 (dk_at dksX3_read_5 21 rfl rfl)
theorem dX3_read_140 : decode cX3_read 140 = .ok (.getfield 13, 3) := dk_180 0 13 (dk_at dksX3_read_6 0 rfl rfl)
theorem dX3_read_143 : decode cX3_read 143 = .ok (.iload_n 3, 1) := dk_29 (dk_at dksX3_read_6 3 rfl rfl)
theorem dX3_read_144 : decode cX3_read 144 = .ok (.iaload, 1) := dk_46 (dk_at dksX3_read_6 4 rfl rfl)
theorem dX3_read_145 : decode cX3_read 145 = .ok (.iastore, 1) := dk_79 (dk_at dksX3_read_6 5 rfl rfl)
theorem dX3_read_146 : decode cX3_read 146 = .ok (.iinc 3 1, 3) := dk_132 3 1 (dk_at dksX3_read_6 6 rfl rfl)
theorem dX3_read_149 : decode cX3_read 149 = .ok (.goto (-21), 3) := dk_167 255 235 (dk_at dksX3_read_6 9 rfl rfl)
theorem dX3_read_152 : decode cX3_read 152 = .ok (.aload_n 0, 1) := dk_42 (dk_at dksX3_read_6 12 rfl rfl)
theorem dX3_read_153 : decode cX3_read 153 = .ok (.iconst 1, 1) := dk_4 (dk_at dksX3_read_6 13 rfl rfl)
theorem dX3_read_154 : decode cX3_read 154 = .ok (.iload_n 2, 1) := dk_28 (dk_at dksX3_read_6 14 rfl rfl)
theorem dX3_read_155 : decode cX3_read 155 = .ok (.invokevirtual 63, 3) := dk_182 0 63 (dk_at dksX3_read_6 15 rfl rfl)
theorem dX3_read_158 : decode cX3_read 158 = .ok (.aload_n 0, 1) := dk_42 (dk_at dksX3_read_6 18 rfl rfl)
theorem dX3_read_159 : decode cX3_read 159 = .ok (.getfield 31, 3) := dk_180 0 31 (dk_at dksX3_read_6 19 rfl rfl)
theorem dX3_read_162 : decode cX3_read 162 = .ok (.iconst 0, 1) := dk_3 (dk_at dksX3_read_6 22 rfl rfl)
theorem dX3_read_163 : decode cX3_read 163 = .ok (.bipush 11, 2) := dk_16 11 (dk_at dksX3_read_7 0 rfl rfl)
theorem dX3_read_165 : decode cX3_read 165 = .ok (.iastore, 1) := dk_79 (dk_at dksX3_read_7 2 rfl rfl)
theorem dX3_read_166 : decode cX3_read 166 = .ok (.aload_n 0, 1) := dk_42 (dk_at dksX3_read_7 3 rfl rfl)
theorem dX3_read_167 : decode cX3_read 167 = .ok (.getfield 34, 3) := dk_180 0 34 (dk_at dksX3_read_7 4 rfl rfl)
theorem dX3_read_170 : decode cX3_read 170 = .ok (.iconst 0, 1) := dk_3 (dk_at dksX3_read_7 7 rfl rfl)
theorem dX3_read_171 : decode cX3_read 171 = .ok (.iload_n 1, 1) := dk_27 (dk_at dksX3_read_7 8 rfl rfl)
theorem dX3_read_172 : decode cX3_read 172 = .ok (.iastore, 1) := dk_79 (dk_at dksX3_read_7 9 rfl rfl)
theorem dX3_read_173 : decode cX3_read 173 = .ok (.aload_n 0, 1) := dk_42 (dk_at dksX3_read_7 10 rfl rfl)
theorem dX3_read_174 : decode cX3_read 174 = .ok (.iconst 2, 1) := dk_5 (dk_at dksX3_read_7 11 rfl rfl)
theorem dX3_read_175 : decode cX3_read 175 = .ok (.invokevirtual 67, 3) := dk_182 0 67 (dk_at dksX3_read_7 12 rfl rfl)
theorem dX3_read_178 : decode cX3_read 178 = .ok (.ireturn, 1) := dk_172 (dk_at dksX3_read_7 15 rfl rfl)
theorem dX3_read_179 : decode cX3_read 179 = .ok (.iinc 1 1, 3) := dk_132 1 1 (dk_at dksX3_read_7 16 rfl rfl)
theorem dX3_read_182 : decode cX3_read 182 = .ok (.goto (-74), 3) := dk_167 255 182 (dk_at dksX3_read_7 19 rfl rfl)
theorem dX3_read_185 : decode cX3_read 185 = .ok (.aload_n 0, 1) := dk_42 (dk_at dksX3_read_7 22 rfl rfl)
theorem dX3_read_186 : decode cX3_read 186 = .ok (.aload_n 0, 1) := dk_42 (dk_at dksX3_read_7 23 rfl rfl)
theorem dX3_read_187 : decode cX3_read 187 = .ok (.getfield 180, 3) := dk_180 0 180 (dk_at dksX3_read_8 0 rfl rfl)
theorem dX3_read_190 : decode cX3_read 190 = .ok (.invokevirtual 59, 3) := dk_182 0 59 (dk_at dksX3_read_8 3 rfl rfl)
theorem dX3_read_193 : decode cX3_read 193 = .ok (.ireturn, 1) := dk_172 (dk_at dksX3_read_8 6 rfl rfl)
abbrev cX3_readsOne : ByteArray := prog_20_method_59_code
def yX3_readsOne : MethodName := ⟨RX3, "readsOne", "()V"⟩
def dkwX3_readsOne_7 : List UInt8 := [181, 0, 161, 42, 89, 180, 0, 180, 4, 96, 181, 0, 180, 177]
abbrev dktX3_readsOne_7 : List UInt8 := dkwX3_readsOne_7 ++ []
def dkwX3_readsOne_6 : List UInt8 := [180, 0, 180, 104, 8, 79, 42, 18, 214, 4, 182, 0, 183, 42, 4, 5, 182, 0, 187, 167, 0, 8, 42, 4]
abbrev dktX3_readsOne_6 : List UInt8 := dkwX3_readsOne_6 ++ dktX3_readsOne_7
def dkwX3_readsOne_5 : List UInt8 := [160, 0, 17, 42, 6, 18, 210, 4, 18, 212, 4, 182, 0, 194, 167, 0, 36, 42, 180, 0, 25, 6, 42]
abbrev dktX3_readsOne_5 : List UInt8 := dkwX3_readsOne_5 ++ dktX3_readsOne_6
def dkwX3_readsOne_4 : List UInt8 := [3, 18, 208, 5, 182, 0, 194, 167, 0, 65, 42, 16, 100, 182, 0, 176, 42, 182, 0, 165, 16, 114]
abbrev dktX3_readsOne_4 : List UInt8 := dkwX3_readsOne_4 ++ dktX3_readsOne_5
def dkwX3_readsOne_3 : List UInt8 := [182, 0, 194, 167, 0, 93, 42, 5, 18, 202, 3, 18, 204, 4, 182, 0, 194, 167, 0, 79, 42, 7, 18, 206]
abbrev dktX3_readsOne_3 : List UInt8 := dkwX3_readsOne_3 ++ dktX3_readsOne_4
def dkwX3_readsOne_2 : List UInt8 := [42, 3, 18, 190, 3, 18, 192, 4, 182, 0, 194, 167, 0, 107, 42, 4, 18, 198, 3, 18, 200, 3]
abbrev dktX3_readsOne_2 : List UInt8 := dkwX3_readsOne_2 ++ dktX3_readsOne_3
def dkwX3_readsOne_1 : List UInt8 := [171, 0, 0, 0, 0, 0, 0, 165, 0, 0, 0, 5, 0, 0, 0, 100, 0, 0, 0, 108, 0, 0, 0, 108, 0, 0, 0, 52, 0, 0, 0, 109, 0, 0, 0, 66, 0, 0, 0, 112, 0, 0, 0, 94, 0, 0, 0, 115, 0, 0, 0, 80]
abbrev dktX3_readsOne_1 : List UInt8 := dkwX3_readsOne_1 ++ dktX3_readsOne_2
def dkwX3_readsOne_0 : List UInt8 := [42, 182, 0, 165]
abbrev dktX3_readsOne_0 : List UInt8 := dkwX3_readsOne_0 ++ dktX3_readsOne_1
theorem dksX3_readsOne_0 : cX3_readsOne.data.toList.drop 0 = dktX3_readsOne_0 := by decide +kernel
theorem dksX3_readsOne_1 : cX3_readsOne.data.toList.drop 4 = dktX3_readsOne_1 := dk_seg dksX3_readsOne_0 4 rfl rfl
theorem dksX3_readsOne_2 : cX3_readsOne.data.toList.drop 56 = dktX3_readsOne_2 := dk_seg dksX3_readsOne_1 52 rfl rfl
theorem dksX3_readsOne_3 : cX3_readsOne.data.toList.drop 78 = dktX3_readsOne_3 := dk_seg dksX3_readsOne_2 22 rfl rfl
theorem dksX3_readsOne_4 : cX3_readsOne.data.toList.drop 102 = dktX3_readsOne_4 := dk_seg dksX3_readsOne_3 24 rfl rfl
theorem dksX3_readsOne_5 : cX3_readsOne.data.toList.drop 124 = dktX3_readsOne_5 := dk_seg dksX3_readsOne_4 22 rfl rfl
theorem dksX3_readsOne_6 : cX3_readsOne.data.toList.drop 147 = dktX3_readsOne_6 := dk_seg dksX3_readsOne_5 23 rfl rfl
theorem dksX3_readsOne_7 : cX3_readsOne.data.toList.drop 171 = dktX3_readsOne_7 := dk_seg dksX3_readsOne_6 24 rfl rfl
theorem dX3_readsOne_0 : decode cX3_readsOne 0 = .ok (.aload_n 0, 1) := dk_42 (dk_at dksX3_readsOne_0 0 rfl rfl)
theorem dX3_readsOne_1 : decode cX3_readsOne 1 = .ok (.invokevirtual 165, 3) := dk_182 0 165 (dk_at dksX3_readsOne_0 1 rfl rfl)
theorem dX3_readsOne_4 : decode cX3_readsOne 4 = .ok (.lookupswitch 165 #[(100, 108), (108, 52), (109, 66), (112, 94), (115, 80)], 52) := by decide +kernel
theorem dX3_readsOne_56 : decode cX3_readsOne 56 = .ok (.aload_n 0, 1) := dk_42 (dk_at dksX3_readsOne_2 0 rfl rfl)
theorem dX3_readsOne_57 : decode cX3_readsOne 57 = .ok (.iconst 0, 1) := dk_3 (dk_at dksX3_readsOne_2 1 rfl rfl)
theorem dX3_readsOne_58 : decode cX3_readsOne 58 = .ok (.ldc 190, 2) := dk_18 190 (dk_at dksX3_readsOne_2 2 rfl rfl)
theorem dX3_readsOne_60 : decode cX3_readsOne 60 = .ok (.iconst 0, 1) := dk_3 (dk_at dksX3_readsOne_2 4 rfl rfl)
theorem dX3_readsOne_61 : decode cX3_readsOne 61 = .ok (.ldc 192, 2) := dk_18 192 (dk_at dksX3_readsOne_2 5 rfl rfl)
theorem dX3_readsOne_63 : decode cX3_readsOne 63 = .ok (.iconst 1, 1) := dk_4 (dk_at dksX3_readsOne_2 7 rfl rfl)
theorem dX3_readsOne_64 : decode cX3_readsOne 64 = .ok (.invokevirtual 194, 3) := dk_182 0 194 (dk_at dksX3_readsOne_2 8 rfl rfl)
theorem dX3_readsOne_67 : decode cX3_readsOne 67 = .ok (.goto 107, 3) := dk_167 0 107 (dk_at dksX3_readsOne_2 11 rfl rfl)
theorem dX3_readsOne_70 : decode cX3_readsOne 70 = .ok (.aload_n 0, 1) := dk_42 (dk_at dksX3_readsOne_2 14 rfl rfl)
theorem dX3_readsOne_71 : decode cX3_readsOne 71 = .ok (.iconst 1, 1) := dk_4 (dk_at dksX3_readsOne_2 15 rfl rfl)
theorem dX3_readsOne_72 : decode cX3_readsOne 72 = .ok (.ldc 198, 2) := dk_18 198 (dk_at dksX3_readsOne_2 16 rfl rfl)
theorem dX3_readsOne_74 : decode cX3_readsOne 74 = .ok (.iconst 0, 1) := dk_3 (dk_at dksX3_readsOne_2 18 rfl rfl)
theorem dX3_readsOne_75 : decode cX3_readsOne 75 = .ok (.ldc 200, 2) := dk_18 200 (dk_at dksX3_readsOne_2 19 rfl rfl)
theorem dX3_readsOne_77 : decode cX3_readsOne 77 = .ok (.iconst 0, 1) := dk_3 (dk_at dksX3_readsOne_2 21 rfl rfl)
theorem dX3_readsOne_78 : decode cX3_readsOne 78 = .ok (.invokevirtual 194, 3) := dk_182 0 194 (dk_at dksX3_readsOne_3 0 rfl rfl)
theorem dX3_readsOne_81 : decode cX3_readsOne 81 = .ok (.goto 93, 3) := dk_167 0 93 (dk_at dksX3_readsOne_3 3 rfl rfl)
theorem dX3_readsOne_84 : decode cX3_readsOne 84 = .ok (.aload_n 0, 1) := dk_42 (dk_at dksX3_readsOne_3 6 rfl rfl)
theorem dX3_readsOne_85 : decode cX3_readsOne 85 = .ok (.iconst 2, 1) := dk_5 (dk_at dksX3_readsOne_3 7 rfl rfl)
theorem dX3_readsOne_86 : decode cX3_readsOne 86 = .ok (.ldc 202, 2) := dk_18 202 (dk_at dksX3_readsOne_3 8 rfl rfl)
theorem dX3_readsOne_88 : decode cX3_readsOne 88 = .ok (.iconst 0, 1) := dk_3 (dk_at dksX3_readsOne_3 10 rfl rfl)
theorem dX3_readsOne_89 : decode cX3_readsOne 89 = .ok (.ldc 204, 2) := dk_18 204 (dk_at dksX3_readsOne_3 11 rfl rfl)
theorem dX3_readsOne_91 : decode cX3_readsOne 91 = .ok (.iconst 1, 1) := dk_4 (dk_at dksX3_readsOne_3 13 rfl rfl)
theorem dX3_readsOne_92 : decode cX3_readsOne 92 = .ok (.invokevirtual 194, 3) := dk_182 0 194 (dk_at dksX3_readsOne_3 14 rfl rfl)
theorem dX3_readsOne_95 : decode cX3_readsOne 95 = .ok (.goto 79, 3) := dk_167 0 79 (dk_at dksX3_readsOne_3 17 rfl rfl)
theorem dX3_readsOne_98 : decode cX3_readsOne 98 = .ok (.aload_n 0, 1) := dk_42 (dk_at dksX3_readsOne_3 20 rfl rfl)
theorem dX3_readsOne_99 : decode cX3_readsOne 99 = .ok (.iconst 4, 1) := dk_7 (dk_at dksX3_readsOne_3 21 rfl rfl)
theorem dX3_readsOne_100 : decode cX3_readsOne 100 = .ok (.ldc 206, 2) := dk_18 206 (dk_at dksX3_readsOne_3 22 rfl rfl)
theorem dX3_readsOne_102 : decode cX3_readsOne 102 = .ok (.iconst 0, 1) := dk_3 (dk_at dksX3_readsOne_4 0 rfl rfl)
theorem dX3_readsOne_103 : decode cX3_readsOne 103 = .ok (.ldc 208, 2) := dk_18 208 (dk_at dksX3_readsOne_4 1 rfl rfl)
theorem dX3_readsOne_105 : decode cX3_readsOne 105 = .ok (.iconst 2, 1) := dk_5 (dk_at dksX3_readsOne_4 3 rfl rfl)
theorem dX3_readsOne_106 : decode cX3_readsOne 106 = .ok (.invokevirtual 194, 3) := dk_182 0 194 (dk_at dksX3_readsOne_4 4 rfl rfl)
theorem dX3_readsOne_109 : decode cX3_readsOne 109 = .ok (.goto 65, 3) := dk_167 0 65 (dk_at dksX3_readsOne_4 7 rfl rfl)
theorem dX3_readsOne_112 : decode cX3_readsOne 112 = .ok (.aload_n 0, 1) := dk_42 (dk_at dksX3_readsOne_4 10 rfl rfl)
theorem dX3_readsOne_113 : decode cX3_readsOne 113 = .ok (.bipush 100, 2) := dk_16 100 (dk_at dksX3_readsOne_4 11 rfl rfl)
theorem dX3_readsOne_115 : decode cX3_readsOne 115 = .ok (.invokevirtual 176, 3) := dk_182 0 176 (dk_at dksX3_readsOne_4 13 rfl rfl)
theorem dX3_readsOne_118 : decode cX3_readsOne 118 = .ok (.aload_n 0, 1) := dk_42 (dk_at dksX3_readsOne_4 16 rfl rfl)
theorem dX3_readsOne_119 : decode cX3_readsOne 119 = .ok (.invokevirtual 165, 3) := dk_182 0 165 (dk_at dksX3_readsOne_4 17 rfl rfl)
theorem dX3_readsOne_122 : decode cX3_readsOne 122 = .ok (.bipush 114, 2) := dk_16 114 (dk_at dksX3_readsOne_4 20 rfl rfl)
theorem dX3_readsOne_124 : decode cX3_readsOne 124 = .ok (.if_icmp .ne 17, 3) := dk_160 0 17 (dk_at dksX3_readsOne_5 0 rfl rfl)
theorem dX3_readsOne_127 : decode cX3_readsOne 127 = .ok (.aload_n 0, 1) := dk_42 (dk_at dksX3_readsOne_5 3 rfl rfl)
theorem dX3_readsOne_128 : decode cX3_readsOne 128 = .ok (.iconst 3, 1) := dk_6 (dk_at dksX3_readsOne_5 4 rfl rfl)
theorem dX3_readsOne_129 : decode cX3_readsOne 129 = .ok (.ldc 210, 2) := dk_18 210 (dk_at dksX3_readsOne_5 5 rfl rfl)
theorem dX3_readsOne_131 : decode cX3_readsOne 131 = .ok (.iconst 1, 1) := dk_4 (dk_at dksX3_readsOne_5 7 rfl rfl)
theorem dX3_readsOne_132 : decode cX3_readsOne 132 = .ok (.ldc 212, 2) := dk_18 212 (dk_at dksX3_readsOne_5 8 rfl rfl)
theorem dX3_readsOne_134 : decode cX3_readsOne 134 = .ok (.iconst 1, 1) := dk_4 (dk_at dksX3_readsOne_5 10 rfl rfl)
theorem dX3_readsOne_135 : decode cX3_readsOne 135 = .ok (.invokevirtual 194, 3) := dk_182 0 194 (dk_at dksX3_readsOne_5 11 rfl rfl)
theorem dX3_readsOne_138 : decode cX3_readsOne 138 = .ok (.goto 36, 3) := dk_167 0 36 (dk_at dksX3_readsOne_5 14 rfl rfl)
theorem dX3_readsOne_141 : decode cX3_readsOne 141 = .ok (.aload_n 0, 1) := dk_42 (dk_at dksX3_readsOne_5 17 rfl rfl)
theorem dX3_readsOne_142 : decode cX3_readsOne 142 = .ok (.getfield 25, 3) := dk_180 0 25 (dk_at dksX3_readsOne_5 18 rfl rfl)
theorem dX3_readsOne_145 : decode cX3_readsOne 145 = .ok (.iconst 3, 1) := dk_6 (dk_at dksX3_readsOne_5 21 rfl rfl)
theorem dX3_readsOne_146 : decode cX3_readsOne 146 = .ok (.aload_n 0, 1) := dk_42 (dk_at dksX3_readsOne_5 22 rfl rfl)
theorem dX3_readsOne_147 : decode cX3_readsOne 147 = .ok (.getfield 180, 3) := dk_180 0 180 (dk_at dksX3_readsOne_6 0 rfl rfl)
theorem dX3_readsOne_150 : decode cX3_readsOne 150 = .ok (.imul, 1) := dk_104 (dk_at dksX3_readsOne_6 3 rfl rfl)
theorem dX3_readsOne_151 : decode cX3_readsOne 151 = .ok (.iconst 5, 1) := dk_8 (dk_at dksX3_readsOne_6 4 rfl rfl)
theorem dX3_readsOne_152 : decode cX3_readsOne 152 = .ok (.iastore, 1) := dk_79 (dk_at dksX3_readsOne_6 5 rfl rfl)
theorem dX3_readsOne_153 : decode cX3_readsOne 153 = .ok (.aload_n 0, 1) := dk_42 (dk_at dksX3_readsOne_6 6 rfl rfl)
theorem dX3_readsOne_154 : decode cX3_readsOne 154 = .ok (.ldc 214, 2) := dk_18 214 (dk_at dksX3_readsOne_6 7 rfl rfl)
theorem dX3_readsOne_156 : decode cX3_readsOne 156 = .ok (.iconst 1, 1) := dk_4 (dk_at dksX3_readsOne_6 9 rfl rfl)
theorem dX3_readsOne_157 : decode cX3_readsOne 157 = .ok (.invokevirtual 183, 3) := dk_182 0 183 (dk_at dksX3_readsOne_6 10 rfl rfl)
theorem dX3_readsOne_160 : decode cX3_readsOne 160 = .ok (.aload_n 0, 1) := dk_42 (dk_at dksX3_readsOne_6 13 rfl rfl)
theorem dX3_readsOne_161 : decode cX3_readsOne 161 = .ok (.iconst 1, 1) := dk_4 (dk_at dksX3_readsOne_6 14 rfl rfl)
theorem dX3_readsOne_162 : decode cX3_readsOne 162 = .ok (.iconst 2, 1) := dk_5 (dk_at dksX3_readsOne_6 15 rfl rfl)
theorem dX3_readsOne_163 : decode cX3_readsOne 163 = .ok (.invokevirtual 187, 3) := dk_182 0 187 (dk_at dksX3_readsOne_6 16 rfl rfl)
theorem dX3_readsOne_166 : decode cX3_readsOne 166 = .ok (.goto 8, 3) := dk_167 0 8 (dk_at dksX3_readsOne_6 19 rfl rfl)
theorem dX3_readsOne_169 : decode cX3_readsOne 169 = .ok (.aload_n 0, 1) := dk_42 (dk_at dksX3_readsOne_6 22 rfl rfl)
theorem dX3_readsOne_170 : decode cX3_readsOne 170 = .ok (.iconst 1, 1) := dk_4 (dk_at dksX3_readsOne_6 23 rfl rfl)
theorem dX3_readsOne_171 : decode cX3_readsOne 171 = .ok (.putfield 161, 3) := dk_181 0 161 (dk_at dksX3_readsOne_7 0 rfl rfl)
theorem dX3_readsOne_174 : decode cX3_readsOne 174 = .ok (.aload_n 0, 1) := dk_42 (dk_at dksX3_readsOne_7 3 rfl rfl)
theorem dX3_readsOne_175 : decode cX3_readsOne 175 = .ok (.dup, 1) := dk_89 (dk_at dksX3_readsOne_7 4 rfl rfl)
theorem dX3_readsOne_176 : decode cX3_readsOne 176 = .ok (.getfield 180, 3) := dk_180 0 180 (dk_at dksX3_readsOne_7 5 rfl rfl)
theorem dX3_readsOne_179 : decode cX3_readsOne 179 = .ok (.iconst 1, 1) := dk_4 (dk_at dksX3_readsOne_7 8 rfl rfl)
theorem dX3_readsOne_180 : decode cX3_readsOne 180 = .ok (.iadd, 1) := dk_96 (dk_at dksX3_readsOne_7 9 rfl rfl)
theorem dX3_readsOne_181 : decode cX3_readsOne 181 = .ok (.putfield 180, 3) := dk_181 0 180 (dk_at dksX3_readsOne_7 10 rfl rfl)
theorem dX3_readsOne_184 : decode cX3_readsOne 184 = .ok (.return_, 1) := dk_177 (dk_at dksX3_readsOne_7 13 rfl rfl)
abbrev cX3_here : ByteArray := prog_20_method_54_code
def yX3_here : MethodName := ⟨RX3, "here", "()I"⟩
def dkwX3_here_1 : List UInt8 := [172]
abbrev dktX3_here_1 : List UInt8 := dkwX3_here_1 ++ []
def dkwX3_here_0 : List UInt8 := [42, 180, 0, 155, 42, 180, 0, 158, 162, 0, 15, 42, 180, 0, 22, 42, 180, 0, 155, 46, 167, 0, 4, 2]
abbrev dktX3_here_0 : List UInt8 := dkwX3_here_0 ++ dktX3_here_1
theorem dksX3_here_0 : cX3_here.data.toList.drop 0 = dktX3_here_0 := by decide +kernel
theorem dksX3_here_1 : cX3_here.data.toList.drop 24 = dktX3_here_1 := dk_seg dksX3_here_0 24 rfl rfl
theorem dX3_here_0 : decode cX3_here 0 = .ok (.aload_n 0, 1) := dk_42 (dk_at dksX3_here_0 0 rfl rfl)
theorem dX3_here_1 : decode cX3_here 1 = .ok (.getfield 155, 3) := dk_180 0 155 (dk_at dksX3_here_0 1 rfl rfl)
theorem dX3_here_4 : decode cX3_here 4 = .ok (.aload_n 0, 1) := dk_42 (dk_at dksX3_here_0 4 rfl rfl)
theorem dX3_here_5 : decode cX3_here 5 = .ok (.getfield 158, 3) := dk_180 0 158 (dk_at dksX3_here_0 5 rfl rfl)
theorem dX3_here_8 : decode cX3_here 8 = .ok (.if_icmp .ge 15, 3) := dk_162 0 15 (dk_at dksX3_here_0 8 rfl rfl)
theorem dX3_here_11 : decode cX3_here 11 = .ok (.aload_n 0, 1) := dk_42 (dk_at dksX3_here_0 11 rfl rfl)
theorem dX3_here_12 : decode cX3_here 12 = .ok (.getfield 22, 3) := dk_180 0 22 (dk_at dksX3_here_0 12 rfl rfl)
theorem dX3_here_15 : decode cX3_here 15 = .ok (.aload_n 0, 1) := dk_42 (dk_at dksX3_here_0 15 rfl rfl)
theorem dX3_here_16 : decode cX3_here 16 = .ok (.getfield 155, 3) := dk_180 0 155 (dk_at dksX3_here_0 16 rfl rfl)
theorem dX3_here_19 : decode cX3_here 19 = .ok (.iaload, 1) := dk_46 (dk_at dksX3_here_0 19 rfl rfl)
theorem dX3_here_20 : decode cX3_here 20 = .ok (.goto 4, 3) := dk_167 0 4 (dk_at dksX3_here_0 20 rfl rfl)
theorem dX3_here_23 : decode cX3_here 23 = .ok (.iconst (-1), 1) := dk_2 (dk_at dksX3_here_0 23 rfl rfl)
theorem dX3_here_24 : decode cX3_here 24 = .ok (.ireturn, 1) := dk_172 (dk_at dksX3_here_1 0 rfl rfl)
abbrev cX3_orderOf : ByteArray := prog_20_method_58_code
def yX3_orderOf : MethodName := ⟨RX3, "orderOf", "(ILjava/lang/String;ILjava/lang/String;I)V"⟩
def dkwX3_orderOf_4 : List UInt8 := [180, 0, 25, 6, 42, 180, 0, 180, 104, 5, 96, 46, 116, 79, 177]
abbrev dktX3_orderOf_4 : List UInt8 := dkwX3_orderOf_4 ++ []
def dkwX3_orderOf_3 : List UInt8 := [21, 5, 182, 0, 187, 21, 6, 153, 0, 30, 42, 180, 0, 25, 6, 42, 180, 0, 180, 104, 5, 96, 42]
abbrev dktX3_orderOf_3 : List UInt8 := dkwX3_orderOf_3 ++ dktX3_orderOf_4
def dkwX3_orderOf_2 : List UInt8 := [167, 0, 4, 3, 54, 6, 21, 6, 153, 0, 9, 42, 16, 45, 182, 0, 176, 21, 5, 158, 0, 10, 42, 5]
abbrev dktX3_orderOf_2 : List UInt8 := dkwX3_orderOf_2 ++ dktX3_orderOf_3
def dkwX3_orderOf_1 : List UInt8 := [42, 25, 4, 3, 182, 0, 183, 27, 6, 160, 0, 16, 42, 182, 0, 165, 16, 45, 160, 0, 7, 4]
abbrev dktX3_orderOf_1 : List UInt8 := dkwX3_orderOf_1 ++ dktX3_orderOf_2
def dkwX3_orderOf_0 : List UInt8 := [42, 180, 0, 25, 6, 42, 180, 0, 180, 104, 27, 79, 42, 44, 29, 182, 0, 183, 42, 4, 4, 182, 0, 187]
abbrev dktX3_orderOf_0 : List UInt8 := dkwX3_orderOf_0 ++ dktX3_orderOf_1
theorem dksX3_orderOf_0 : cX3_orderOf.data.toList.drop 0 = dktX3_orderOf_0 := by decide +kernel
theorem dksX3_orderOf_1 : cX3_orderOf.data.toList.drop 24 = dktX3_orderOf_1 := dk_seg dksX3_orderOf_0 24 rfl rfl
theorem dksX3_orderOf_2 : cX3_orderOf.data.toList.drop 46 = dktX3_orderOf_2 := dk_seg dksX3_orderOf_1 22 rfl rfl
theorem dksX3_orderOf_3 : cX3_orderOf.data.toList.drop 70 = dktX3_orderOf_3 := dk_seg dksX3_orderOf_2 24 rfl rfl
theorem dksX3_orderOf_4 : cX3_orderOf.data.toList.drop 93 = dktX3_orderOf_4 := dk_seg dksX3_orderOf_3 23 rfl rfl
theorem dX3_orderOf_0 : decode cX3_orderOf 0 = .ok (.aload_n 0, 1) := dk_42 (dk_at dksX3_orderOf_0 0 rfl rfl)
theorem dX3_orderOf_1 : decode cX3_orderOf 1 = .ok (.getfield 25, 3) := dk_180 0 25 (dk_at dksX3_orderOf_0 1 rfl rfl)
theorem dX3_orderOf_4 : decode cX3_orderOf 4 = .ok (.iconst 3, 1) := dk_6 (dk_at dksX3_orderOf_0 4 rfl rfl)
theorem dX3_orderOf_5 : decode cX3_orderOf 5 = .ok (.aload_n 0, 1) := dk_42 (dk_at dksX3_orderOf_0 5 rfl rfl)
theorem dX3_orderOf_6 : decode cX3_orderOf 6 = .ok (.getfield 180, 3) := dk_180 0 180 (dk_at dksX3_orderOf_0 6 rfl rfl)
theorem dX3_orderOf_9 : decode cX3_orderOf 9 = .ok (.imul, 1) := dk_104 (dk_at dksX3_orderOf_0 9 rfl rfl)
theorem dX3_orderOf_10 : decode cX3_orderOf 10 = .ok (.iload_n 1, 1) := dk_27 (dk_at dksX3_orderOf_0 10 rfl rfl)
theorem dX3_orderOf_11 : decode cX3_orderOf 11 = .ok (.iastore, 1) := dk_79 (dk_at dksX3_orderOf_0 11 rfl rfl)
theorem dX3_orderOf_12 : decode cX3_orderOf 12 = .ok (.aload_n 0, 1) := dk_42 (dk_at dksX3_orderOf_0 12 rfl rfl)
theorem dX3_orderOf_13 : decode cX3_orderOf 13 = .ok (.aload_n 2, 1) := dk_44 (dk_at dksX3_orderOf_0 13 rfl rfl)
theorem dX3_orderOf_14 : decode cX3_orderOf 14 = .ok (.iload_n 3, 1) := dk_29 (dk_at dksX3_orderOf_0 14 rfl rfl)
theorem dX3_orderOf_15 : decode cX3_orderOf 15 = .ok (.invokevirtual 183, 3) := dk_182 0 183 (dk_at dksX3_orderOf_0 15 rfl rfl)
theorem dX3_orderOf_18 : decode cX3_orderOf 18 = .ok (.aload_n 0, 1) := dk_42 (dk_at dksX3_orderOf_0 18 rfl rfl)
theorem dX3_orderOf_19 : decode cX3_orderOf 19 = .ok (.iconst 1, 1) := dk_4 (dk_at dksX3_orderOf_0 19 rfl rfl)
theorem dX3_orderOf_20 : decode cX3_orderOf 20 = .ok (.iconst 1, 1) := dk_4 (dk_at dksX3_orderOf_0 20 rfl rfl)
theorem dX3_orderOf_21 : decode cX3_orderOf 21 = .ok (.invokevirtual 187, 3) := dk_182 0 187 (dk_at dksX3_orderOf_0 21 rfl rfl)
theorem dX3_orderOf_24 : decode cX3_orderOf 24 = .ok (.aload_n 0, 1) := dk_42 (dk_at dksX3_orderOf_1 0 rfl rfl)
theorem dX3_orderOf_25 : decode cX3_orderOf 25 = .ok (.aload 4, 2) := dk_25 4 (dk_at dksX3_orderOf_1 1 rfl rfl)
theorem dX3_orderOf_27 : decode cX3_orderOf 27 = .ok (.iconst 0, 1) := dk_3 (dk_at dksX3_orderOf_1 3 rfl rfl)
theorem dX3_orderOf_28 : decode cX3_orderOf 28 = .ok (.invokevirtual 183, 3) := dk_182 0 183 (dk_at dksX3_orderOf_1 4 rfl rfl)
theorem dX3_orderOf_31 : decode cX3_orderOf 31 = .ok (.iload_n 1, 1) := dk_27 (dk_at dksX3_orderOf_1 7 rfl rfl)
theorem dX3_orderOf_32 : decode cX3_orderOf 32 = .ok (.iconst 3, 1) := dk_6 (dk_at dksX3_orderOf_1 8 rfl rfl)
theorem dX3_orderOf_33 : decode cX3_orderOf 33 = .ok (.if_icmp .ne 16, 3) := dk_160 0 16 (dk_at dksX3_orderOf_1 9 rfl rfl)
theorem dX3_orderOf_36 : decode cX3_orderOf 36 = .ok (.aload_n 0, 1) := dk_42 (dk_at dksX3_orderOf_1 12 rfl rfl)
theorem dX3_orderOf_37 : decode cX3_orderOf 37 = .ok (.invokevirtual 165, 3) := dk_182 0 165 (dk_at dksX3_orderOf_1 13 rfl rfl)
theorem dX3_orderOf_40 : decode cX3_orderOf 40 = .ok (.bipush 45, 2) := dk_16 45 (dk_at dksX3_orderOf_1 16 rfl rfl)
theorem dX3_orderOf_42 : decode cX3_orderOf 42 = .ok (.if_icmp .ne 7, 3) := dk_160 0 7 (dk_at dksX3_orderOf_1 18 rfl rfl)
theorem dX3_orderOf_45 : decode cX3_orderOf 45 = .ok (.iconst 1, 1) := dk_4 (dk_at dksX3_orderOf_1 21 rfl rfl)
theorem dX3_orderOf_46 : decode cX3_orderOf 46 = .ok (.goto 4, 3) := dk_167 0 4 (dk_at dksX3_orderOf_2 0 rfl rfl)
theorem dX3_orderOf_49 : decode cX3_orderOf 49 = .ok (.iconst 0, 1) := dk_3 (dk_at dksX3_orderOf_2 3 rfl rfl)
theorem dX3_orderOf_50 : decode cX3_orderOf 50 = .ok (.istore 6, 2) := dk_54 6 (dk_at dksX3_orderOf_2 4 rfl rfl)
theorem dX3_orderOf_52 : decode cX3_orderOf 52 = .ok (.iload 6, 2) := dk_21 6 (dk_at dksX3_orderOf_2 6 rfl rfl)
theorem dX3_orderOf_54 : decode cX3_orderOf 54 = .ok (.ifCond .eq 9, 3) := dk_153 0 9 (dk_at dksX3_orderOf_2 8 rfl rfl)
theorem dX3_orderOf_57 : decode cX3_orderOf 57 = .ok (.aload_n 0, 1) := dk_42 (dk_at dksX3_orderOf_2 11 rfl rfl)
theorem dX3_orderOf_58 : decode cX3_orderOf 58 = .ok (.bipush 45, 2) := dk_16 45 (dk_at dksX3_orderOf_2 12 rfl rfl)
theorem dX3_orderOf_60 : decode cX3_orderOf 60 = .ok (.invokevirtual 176, 3) := dk_182 0 176 (dk_at dksX3_orderOf_2 14 rfl rfl)
theorem dX3_orderOf_63 : decode cX3_orderOf 63 = .ok (.iload 5, 2) := dk_21 5 (dk_at dksX3_orderOf_2 17 rfl rfl)
theorem dX3_orderOf_65 : decode cX3_orderOf 65 = .ok (.ifCond .le 10, 3) := dk_158 0 10 (dk_at dksX3_orderOf_2 19 rfl rfl)
theorem dX3_orderOf_68 : decode cX3_orderOf 68 = .ok (.aload_n 0, 1) := dk_42 (dk_at dksX3_orderOf_2 22 rfl rfl)
theorem dX3_orderOf_69 : decode cX3_orderOf 69 = .ok (.iconst 2, 1) := dk_5 (dk_at dksX3_orderOf_2 23 rfl rfl)
theorem dX3_orderOf_70 : decode cX3_orderOf 70 = .ok (.iload 5, 2) := dk_21 5 (dk_at dksX3_orderOf_3 0 rfl rfl)
theorem dX3_orderOf_72 : decode cX3_orderOf 72 = .ok (.invokevirtual 187, 3) := dk_182 0 187 (dk_at dksX3_orderOf_3 2 rfl rfl)
theorem dX3_orderOf_75 : decode cX3_orderOf 75 = .ok (.iload 6, 2) := dk_21 6 (dk_at dksX3_orderOf_3 5 rfl rfl)
theorem dX3_orderOf_77 : decode cX3_orderOf 77 = .ok (.ifCond .eq 30, 3) := dk_153 0 30 (dk_at dksX3_orderOf_3 7 rfl rfl)
theorem dX3_orderOf_80 : decode cX3_orderOf 80 = .ok (.aload_n 0, 1) := dk_42 (dk_at dksX3_orderOf_3 10 rfl rfl)
theorem dX3_orderOf_81 : decode cX3_orderOf 81 = .ok (.getfield 25, 3) := dk_180 0 25 (dk_at dksX3_orderOf_3 11 rfl rfl)
theorem dX3_orderOf_84 : decode cX3_orderOf 84 = .ok (.iconst 3, 1) := dk_6 (dk_at dksX3_orderOf_3 14 rfl rfl)
theorem dX3_orderOf_85 : decode cX3_orderOf 85 = .ok (.aload_n 0, 1) := dk_42 (dk_at dksX3_orderOf_3 15 rfl rfl)
theorem dX3_orderOf_86 : decode cX3_orderOf 86 = .ok (.getfield 180, 3) := dk_180 0 180 (dk_at dksX3_orderOf_3 16 rfl rfl)
theorem dX3_orderOf_89 : decode cX3_orderOf 89 = .ok (.imul, 1) := dk_104 (dk_at dksX3_orderOf_3 19 rfl rfl)
theorem dX3_orderOf_90 : decode cX3_orderOf 90 = .ok (.iconst 2, 1) := dk_5 (dk_at dksX3_orderOf_3 20 rfl rfl)
theorem dX3_orderOf_91 : decode cX3_orderOf 91 = .ok (.iadd, 1) := dk_96 (dk_at dksX3_orderOf_3 21 rfl rfl)
theorem dX3_orderOf_92 : decode cX3_orderOf 92 = .ok (.aload_n 0, 1) := dk_42 (dk_at dksX3_orderOf_3 22 rfl rfl)
theorem dX3_orderOf_93 : decode cX3_orderOf 93 = .ok (.getfield 25, 3) := dk_180 0 25 (dk_at dksX3_orderOf_4 0 rfl rfl)
theorem dX3_orderOf_96 : decode cX3_orderOf 96 = .ok (.iconst 3, 1) := dk_6 (dk_at dksX3_orderOf_4 3 rfl rfl)
theorem dX3_orderOf_97 : decode cX3_orderOf 97 = .ok (.aload_n 0, 1) := dk_42 (dk_at dksX3_orderOf_4 4 rfl rfl)
theorem dX3_orderOf_98 : decode cX3_orderOf 98 = .ok (.getfield 180, 3) := dk_180 0 180 (dk_at dksX3_orderOf_4 5 rfl rfl)
theorem dX3_orderOf_101 : decode cX3_orderOf 101 = .ok (.imul, 1) := dk_104 (dk_at dksX3_orderOf_4 8 rfl rfl)
theorem dX3_orderOf_102 : decode cX3_orderOf 102 = .ok (.iconst 2, 1) := dk_5 (dk_at dksX3_orderOf_4 9 rfl rfl)
theorem dX3_orderOf_103 : decode cX3_orderOf 103 = .ok (.iadd, 1) := dk_96 (dk_at dksX3_orderOf_4 10 rfl rfl)
theorem dX3_orderOf_104 : decode cX3_orderOf 104 = .ok (.iaload, 1) := dk_46 (dk_at dksX3_orderOf_4 11 rfl rfl)
theorem dX3_orderOf_105 : decode cX3_orderOf 105 = .ok (.ineg, 1) := dk_116 (dk_at dksX3_orderOf_4 12 rfl rfl)
theorem dX3_orderOf_106 : decode cX3_orderOf 106 = .ok (.iastore, 1) := dk_79 (dk_at dksX3_orderOf_4 13 rfl rfl)
theorem dX3_orderOf_107 : decode cX3_orderOf 107 = .ok (.return_, 1) := dk_177 (dk_at dksX3_orderOf_4 14 rfl rfl)
abbrev cX3_word : ByteArray := prog_20_method_56_code
def yX3_word : MethodName := ⟨RX3, "word", "(Ljava/lang/String;I)V"⟩
def dkwX3_word_1 : List UInt8 := [167, 255, 236, 177]
abbrev dktX3_word_1 : List UInt8 := dkwX3_word_1 ++ []
def dkwX3_word_0 : List UInt8 := [28, 62, 29, 43, 182, 0, 168, 162, 0, 18, 42, 43, 29, 182, 0, 172, 182, 0, 176, 132, 3, 1]
abbrev dktX3_word_0 : List UInt8 := dkwX3_word_0 ++ dktX3_word_1
theorem dksX3_word_0 : cX3_word.data.toList.drop 0 = dktX3_word_0 := by decide +kernel
theorem dksX3_word_1 : cX3_word.data.toList.drop 22 = dktX3_word_1 := dk_seg dksX3_word_0 22 rfl rfl
theorem dX3_word_0 : decode cX3_word 0 = .ok (.iload_n 2, 1) := dk_28 (dk_at dksX3_word_0 0 rfl rfl)
theorem dX3_word_1 : decode cX3_word 1 = .ok (.istore_n 3, 1) := dk_62 (dk_at dksX3_word_0 1 rfl rfl)
theorem dX3_word_2 : decode cX3_word 2 = .ok (.iload_n 3, 1) := dk_29 (dk_at dksX3_word_0 2 rfl rfl)
theorem dX3_word_3 : decode cX3_word 3 = .ok (.aload_n 1, 1) := dk_43 (dk_at dksX3_word_0 3 rfl rfl)
theorem dX3_word_4 : decode cX3_word 4 = .ok (.invokevirtual 168, 3) := dk_182 0 168 (dk_at dksX3_word_0 4 rfl rfl)
theorem dX3_word_7 : decode cX3_word 7 = .ok (.if_icmp .ge 18, 3) := dk_162 0 18 (dk_at dksX3_word_0 7 rfl rfl)
theorem dX3_word_10 : decode cX3_word 10 = .ok (.aload_n 0, 1) := dk_42 (dk_at dksX3_word_0 10 rfl rfl)
theorem dX3_word_11 : decode cX3_word 11 = .ok (.aload_n 1, 1) := dk_43 (dk_at dksX3_word_0 11 rfl rfl)
theorem dX3_word_12 : decode cX3_word 12 = .ok (.iload_n 3, 1) := dk_29 (dk_at dksX3_word_0 12 rfl rfl)
theorem dX3_word_13 : decode cX3_word 13 = .ok (.invokevirtual 172, 3) := dk_182 0 172 (dk_at dksX3_word_0 13 rfl rfl)
theorem dX3_word_16 : decode cX3_word 16 = .ok (.invokevirtual 176, 3) := dk_182 0 176 (dk_at dksX3_word_0 16 rfl rfl)
theorem dX3_word_19 : decode cX3_word 19 = .ok (.iinc 3 1, 3) := dk_132 3 1 (dk_at dksX3_word_0 19 rfl rfl)
theorem dX3_word_22 : decode cX3_word 22 = .ok (.goto (-20), 3) := dk_167 255 236 (dk_at dksX3_word_1 0 rfl rfl)
theorem dX3_word_25 : decode cX3_word 25 = .ok (.return_, 1) := dk_177 (dk_at dksX3_word_1 3 rfl rfl)
abbrev cX3_must : ByteArray := prog_20_method_55_code
def yX3_must : MethodName := ⟨RX3, "must", "(I)V"⟩
def dkwX3_must_1 : List UInt8 := [42, 89, 180, 0, 155, 42, 180, 0, 161, 153, 0, 7, 3, 167, 0, 4, 4, 96, 181, 0, 155, 177]
abbrev dktX3_must_1 : List UInt8 := dkwX3_must_1 ++ []
def dkwX3_must_0 : List UInt8 := [42, 42, 180, 0, 161, 154, 0, 11, 42, 182, 0, 165, 27, 159, 0, 7, 4, 167, 0, 4, 3, 181, 0, 161]
abbrev dktX3_must_0 : List UInt8 := dkwX3_must_0 ++ dktX3_must_1
theorem dksX3_must_0 : cX3_must.data.toList.drop 0 = dktX3_must_0 := by decide +kernel
theorem dksX3_must_1 : cX3_must.data.toList.drop 24 = dktX3_must_1 := dk_seg dksX3_must_0 24 rfl rfl
theorem dX3_must_0 : decode cX3_must 0 = .ok (.aload_n 0, 1) := dk_42 (dk_at dksX3_must_0 0 rfl rfl)
theorem dX3_must_1 : decode cX3_must 1 = .ok (.aload_n 0, 1) := dk_42 (dk_at dksX3_must_0 1 rfl rfl)
theorem dX3_must_2 : decode cX3_must 2 = .ok (.getfield 161, 3) := dk_180 0 161 (dk_at dksX3_must_0 2 rfl rfl)
theorem dX3_must_5 : decode cX3_must 5 = .ok (.ifCond .ne 11, 3) := dk_154 0 11 (dk_at dksX3_must_0 5 rfl rfl)
theorem dX3_must_8 : decode cX3_must 8 = .ok (.aload_n 0, 1) := dk_42 (dk_at dksX3_must_0 8 rfl rfl)
theorem dX3_must_9 : decode cX3_must 9 = .ok (.invokevirtual 165, 3) := dk_182 0 165 (dk_at dksX3_must_0 9 rfl rfl)
theorem dX3_must_12 : decode cX3_must 12 = .ok (.iload_n 1, 1) := dk_27 (dk_at dksX3_must_0 12 rfl rfl)
theorem dX3_must_13 : decode cX3_must 13 = .ok (.if_icmp .eq 7, 3) := dk_159 0 7 (dk_at dksX3_must_0 13 rfl rfl)
theorem dX3_must_16 : decode cX3_must 16 = .ok (.iconst 1, 1) := dk_4 (dk_at dksX3_must_0 16 rfl rfl)
theorem dX3_must_17 : decode cX3_must 17 = .ok (.goto 4, 3) := dk_167 0 4 (dk_at dksX3_must_0 17 rfl rfl)
theorem dX3_must_20 : decode cX3_must 20 = .ok (.iconst 0, 1) := dk_3 (dk_at dksX3_must_0 20 rfl rfl)
theorem dX3_must_21 : decode cX3_must 21 = .ok (.putfield 161, 3) := dk_181 0 161 (dk_at dksX3_must_0 21 rfl rfl)
theorem dX3_must_24 : decode cX3_must 24 = .ok (.aload_n 0, 1) := dk_42 (dk_at dksX3_must_1 0 rfl rfl)
theorem dX3_must_25 : decode cX3_must 25 = .ok (.dup, 1) := dk_89 (dk_at dksX3_must_1 1 rfl rfl)
theorem dX3_must_26 : decode cX3_must 26 = .ok (.getfield 155, 3) := dk_180 0 155 (dk_at dksX3_must_1 2 rfl rfl)
theorem dX3_must_29 : decode cX3_must 29 = .ok (.aload_n 0, 1) := dk_42 (dk_at dksX3_must_1 5 rfl rfl)
theorem dX3_must_30 : decode cX3_must 30 = .ok (.getfield 161, 3) := dk_180 0 161 (dk_at dksX3_must_1 6 rfl rfl)
theorem dX3_must_33 : decode cX3_must 33 = .ok (.ifCond .eq 7, 3) := dk_153 0 7 (dk_at dksX3_must_1 9 rfl rfl)
theorem dX3_must_36 : decode cX3_must 36 = .ok (.iconst 0, 1) := dk_3 (dk_at dksX3_must_1 12 rfl rfl)
theorem dX3_must_37 : decode cX3_must 37 = .ok (.goto 4, 3) := dk_167 0 4 (dk_at dksX3_must_1 13 rfl rfl)
theorem dX3_must_40 : decode cX3_must 40 = .ok (.iconst 1, 1) := dk_4 (dk_at dksX3_must_1 16 rfl rfl)
theorem dX3_must_41 : decode cX3_must 41 = .ok (.iadd, 1) := dk_96 (dk_at dksX3_must_1 17 rfl rfl)
theorem dX3_must_42 : decode cX3_must 42 = .ok (.putfield 155, 3) := dk_181 0 155 (dk_at dksX3_must_1 18 rfl rfl)
theorem dX3_must_45 : decode cX3_must 45 = .ok (.return_, 1) := dk_177 (dk_at dksX3_must_1 21 rfl rfl)
abbrev cX3_digitsOf : ByteArray := prog_20_method_57_code
def yX3_digitsOf : MethodName := ⟨RX3, "digitsOf", "(II)V"⟩
def dkwX3_digitsOf_4 : List UInt8 := [79, 177]
abbrev dktX3_digitsOf_4 : List UInt8 := dkwX3_digitsOf_4 ++ []
def dkwX3_digitsOf_3 : List UInt8 := [154, 0, 7, 4, 167, 0, 4, 3, 181, 0, 161, 42, 180, 0, 25, 6, 42, 180, 0, 180, 104, 27, 96, 29]
abbrev dktX3_digitsOf_3 : List UInt8 := dkwX3_digitsOf_3 ++ dktX3_digitsOf_4
def dkwX3_digitsOf_2 : List UInt8 := [180, 0, 155, 4, 96, 181, 0, 155, 132, 4, 1, 167, 255, 203, 42, 42, 180, 0, 161, 154, 0, 8, 21, 4]
abbrev dktX3_digitsOf_2 : List UInt8 := dkwX3_digitsOf_2 ++ dktX3_digitsOf_3
def dkwX3_digitsOf_1 : List UInt8 := [16, 57, 184, 0, 70, 153, 0, 32, 16, 10, 29, 104, 42, 182, 0, 165, 96, 16, 48, 100, 62, 42, 89]
abbrev dktX3_digitsOf_1 : List UInt8 := dkwX3_digitsOf_1 ++ dktX3_digitsOf_2
def dkwX3_digitsOf_0 : List UInt8 := [3, 62, 3, 54, 4, 42, 180, 0, 161, 154, 0, 52, 21, 4, 28, 162, 0, 46, 42, 182, 0, 165, 16, 48]
abbrev dktX3_digitsOf_0 : List UInt8 := dkwX3_digitsOf_0 ++ dktX3_digitsOf_1
theorem dksX3_digitsOf_0 : cX3_digitsOf.data.toList.drop 0 = dktX3_digitsOf_0 := by decide +kernel
theorem dksX3_digitsOf_1 : cX3_digitsOf.data.toList.drop 24 = dktX3_digitsOf_1 := dk_seg dksX3_digitsOf_0 24 rfl rfl
theorem dksX3_digitsOf_2 : cX3_digitsOf.data.toList.drop 47 = dktX3_digitsOf_2 := dk_seg dksX3_digitsOf_1 23 rfl rfl
theorem dksX3_digitsOf_3 : cX3_digitsOf.data.toList.drop 71 = dktX3_digitsOf_3 := dk_seg dksX3_digitsOf_2 24 rfl rfl
theorem dksX3_digitsOf_4 : cX3_digitsOf.data.toList.drop 95 = dktX3_digitsOf_4 := dk_seg dksX3_digitsOf_3 24 rfl rfl
theorem dX3_digitsOf_0 : decode cX3_digitsOf 0 = .ok (.iconst 0, 1) := dk_3 (dk_at dksX3_digitsOf_0 0 rfl rfl)
theorem dX3_digitsOf_1 : decode cX3_digitsOf 1 = .ok (.istore_n 3, 1) := dk_62 (dk_at dksX3_digitsOf_0 1 rfl rfl)
theorem dX3_digitsOf_2 : decode cX3_digitsOf 2 = .ok (.iconst 0, 1) := dk_3 (dk_at dksX3_digitsOf_0 2 rfl rfl)
theorem dX3_digitsOf_3 : decode cX3_digitsOf 3 = .ok (.istore 4, 2) := dk_54 4 (dk_at dksX3_digitsOf_0 3 rfl rfl)
theorem dX3_digitsOf_5 : decode cX3_digitsOf 5 = .ok (.aload_n 0, 1) := dk_42 (dk_at dksX3_digitsOf_0 5 rfl rfl)
theorem dX3_digitsOf_6 : decode cX3_digitsOf 6 = .ok (.getfield 161, 3) := dk_180 0 161 (dk_at dksX3_digitsOf_0 6 rfl rfl)
theorem dX3_digitsOf_9 : decode cX3_digitsOf 9 = .ok (.ifCond .ne 52, 3) := dk_154 0 52 (dk_at dksX3_digitsOf_0 9 rfl rfl)
theorem dX3_digitsOf_12 : decode cX3_digitsOf 12 = .ok (.iload 4, 2) := dk_21 4 (dk_at dksX3_digitsOf_0 12 rfl rfl)
theorem dX3_digitsOf_14 : decode cX3_digitsOf 14 = .ok (.iload_n 2, 1) := dk_28 (dk_at dksX3_digitsOf_0 14 rfl rfl)
theorem dX3_digitsOf_15 : decode cX3_digitsOf 15 = .ok (.if_icmp .ge 46, 3) := dk_162 0 46 (dk_at dksX3_digitsOf_0 15 rfl rfl)
theorem dX3_digitsOf_18 : decode cX3_digitsOf 18 = .ok (.aload_n 0, 1) := dk_42 (dk_at dksX3_digitsOf_0 18 rfl rfl)
theorem dX3_digitsOf_19 : decode cX3_digitsOf 19 = .ok (.invokevirtual 165, 3) := dk_182 0 165 (dk_at dksX3_digitsOf_0 19 rfl rfl)
theorem dX3_digitsOf_22 : decode cX3_digitsOf 22 = .ok (.bipush 48, 2) := dk_16 48 (dk_at dksX3_digitsOf_0 22 rfl rfl)
theorem dX3_digitsOf_24 : decode cX3_digitsOf 24 = .ok (.bipush 57, 2) := dk_16 57 (dk_at dksX3_digitsOf_1 0 rfl rfl)
theorem dX3_digitsOf_26 : decode cX3_digitsOf 26 = .ok (.invokestatic 70, 3) := dk_184 0 70 (dk_at dksX3_digitsOf_1 2 rfl rfl)
theorem dX3_digitsOf_29 : decode cX3_digitsOf 29 = .ok (.ifCond .eq 32, 3) := dk_153 0 32 (dk_at dksX3_digitsOf_1 5 rfl rfl)
theorem dX3_digitsOf_32 : decode cX3_digitsOf 32 = .ok (.bipush 10, 2) := dk_16 10 (dk_at dksX3_digitsOf_1 8 rfl rfl)
theorem dX3_digitsOf_34 : decode cX3_digitsOf 34 = .ok (.iload_n 3, 1) := dk_29 (dk_at dksX3_digitsOf_1 10 rfl rfl)
theorem dX3_digitsOf_35 : decode cX3_digitsOf 35 = .ok (.imul, 1) := dk_104 (dk_at dksX3_digitsOf_1 11 rfl rfl)
theorem dX3_digitsOf_36 : decode cX3_digitsOf 36 = .ok (.aload_n 0, 1) := dk_42 (dk_at dksX3_digitsOf_1 12 rfl rfl)
theorem dX3_digitsOf_37 : decode cX3_digitsOf 37 = .ok (.invokevirtual 165, 3) := dk_182 0 165 (dk_at dksX3_digitsOf_1 13 rfl rfl)
theorem dX3_digitsOf_40 : decode cX3_digitsOf 40 = .ok (.iadd, 1) := dk_96 (dk_at dksX3_digitsOf_1 16 rfl rfl)
theorem dX3_digitsOf_41 : decode cX3_digitsOf 41 = .ok (.bipush 48, 2) := dk_16 48 (dk_at dksX3_digitsOf_1 17 rfl rfl)
theorem dX3_digitsOf_43 : decode cX3_digitsOf 43 = .ok (.isub, 1) := dk_100 (dk_at dksX3_digitsOf_1 19 rfl rfl)
theorem dX3_digitsOf_44 : decode cX3_digitsOf 44 = .ok (.istore_n 3, 1) := dk_62 (dk_at dksX3_digitsOf_1 20 rfl rfl)
theorem dX3_digitsOf_45 : decode cX3_digitsOf 45 = .ok (.aload_n 0, 1) := dk_42 (dk_at dksX3_digitsOf_1 21 rfl rfl)
theorem dX3_digitsOf_46 : decode cX3_digitsOf 46 = .ok (.dup, 1) := dk_89 (dk_at dksX3_digitsOf_1 22 rfl rfl)
theorem dX3_digitsOf_47 : decode cX3_digitsOf 47 = .ok (.getfield 155, 3) := dk_180 0 155 (dk_at dksX3_digitsOf_2 0 rfl rfl)
theorem dX3_digitsOf_50 : decode cX3_digitsOf 50 = .ok (.iconst 1, 1) := dk_4 (dk_at dksX3_digitsOf_2 3 rfl rfl)
theorem dX3_digitsOf_51 : decode cX3_digitsOf 51 = .ok (.iadd, 1) := dk_96 (dk_at dksX3_digitsOf_2 4 rfl rfl)
theorem dX3_digitsOf_52 : decode cX3_digitsOf 52 = .ok (.putfield 155, 3) := dk_181 0 155 (dk_at dksX3_digitsOf_2 5 rfl rfl)
theorem dX3_digitsOf_55 : decode cX3_digitsOf 55 = .ok (.iinc 4 1, 3) := dk_132 4 1 (dk_at dksX3_digitsOf_2 8 rfl rfl)
theorem dX3_digitsOf_58 : decode cX3_digitsOf 58 = .ok (.goto (-53), 3) := dk_167 255 203 (dk_at dksX3_digitsOf_2 11 rfl rfl)
theorem dX3_digitsOf_61 : decode cX3_digitsOf 61 = .ok (.aload_n 0, 1) := dk_42 (dk_at dksX3_digitsOf_2 14 rfl rfl)
theorem dX3_digitsOf_62 : decode cX3_digitsOf 62 = .ok (.aload_n 0, 1) := dk_42 (dk_at dksX3_digitsOf_2 15 rfl rfl)
theorem dX3_digitsOf_63 : decode cX3_digitsOf 63 = .ok (.getfield 161, 3) := dk_180 0 161 (dk_at dksX3_digitsOf_2 16 rfl rfl)
theorem dX3_digitsOf_66 : decode cX3_digitsOf 66 = .ok (.ifCond .ne 8, 3) := dk_154 0 8 (dk_at dksX3_digitsOf_2 19 rfl rfl)
theorem dX3_digitsOf_69 : decode cX3_digitsOf 69 = .ok (.iload 4, 2) := dk_21 4 (dk_at dksX3_digitsOf_2 22 rfl rfl)
theorem dX3_digitsOf_71 : decode cX3_digitsOf 71 = .ok (.ifCond .ne 7, 3) := dk_154 0 7 (dk_at dksX3_digitsOf_3 0 rfl rfl)
theorem dX3_digitsOf_74 : decode cX3_digitsOf 74 = .ok (.iconst 1, 1) := dk_4 (dk_at dksX3_digitsOf_3 3 rfl rfl)
theorem dX3_digitsOf_75 : decode cX3_digitsOf 75 = .ok (.goto 4, 3) := dk_167 0 4 (dk_at dksX3_digitsOf_3 4 rfl rfl)
theorem dX3_digitsOf_78 : decode cX3_digitsOf 78 = .ok (.iconst 0, 1) := dk_3 (dk_at dksX3_digitsOf_3 7 rfl rfl)
theorem dX3_digitsOf_79 : decode cX3_digitsOf 79 = .ok (.putfield 161, 3) := dk_181 0 161 (dk_at dksX3_digitsOf_3 8 rfl rfl)
theorem dX3_digitsOf_82 : decode cX3_digitsOf 82 = .ok (.aload_n 0, 1) := dk_42 (dk_at dksX3_digitsOf_3 11 rfl rfl)
theorem dX3_digitsOf_83 : decode cX3_digitsOf 83 = .ok (.getfield 25, 3) := dk_180 0 25 (dk_at dksX3_digitsOf_3 12 rfl rfl)
theorem dX3_digitsOf_86 : decode cX3_digitsOf 86 = .ok (.iconst 3, 1) := dk_6 (dk_at dksX3_digitsOf_3 15 rfl rfl)
theorem dX3_digitsOf_87 : decode cX3_digitsOf 87 = .ok (.aload_n 0, 1) := dk_42 (dk_at dksX3_digitsOf_3 16 rfl rfl)
theorem dX3_digitsOf_88 : decode cX3_digitsOf 88 = .ok (.getfield 180, 3) := dk_180 0 180 (dk_at dksX3_digitsOf_3 17 rfl rfl)
theorem dX3_digitsOf_91 : decode cX3_digitsOf 91 = .ok (.imul, 1) := dk_104 (dk_at dksX3_digitsOf_3 20 rfl rfl)
theorem dX3_digitsOf_92 : decode cX3_digitsOf 92 = .ok (.iload_n 1, 1) := dk_27 (dk_at dksX3_digitsOf_3 21 rfl rfl)
theorem dX3_digitsOf_93 : decode cX3_digitsOf 93 = .ok (.iadd, 1) := dk_96 (dk_at dksX3_digitsOf_3 22 rfl rfl)
theorem dX3_digitsOf_94 : decode cX3_digitsOf 94 = .ok (.iload_n 3, 1) := dk_29 (dk_at dksX3_digitsOf_3 23 rfl rfl)
theorem dX3_digitsOf_95 : decode cX3_digitsOf 95 = .ok (.iastore, 1) := dk_79 (dk_at dksX3_digitsOf_4 0 rfl rfl)
theorem dX3_digitsOf_96 : decode cX3_digitsOf 96 = .ok (.return_, 1) := dk_177 (dk_at dksX3_digitsOf_4 1 rfl rfl)
abbrev cX3_does : ByteArray := prog_20_method_60_code
def yX3_does : MethodName := ⟨RX3, "does", "(I)I"⟩
def dkwX3_does_8 : List UInt8 := [172, 29, 4, 16, 99, 184, 0, 70, 153, 0, 12, 42, 28, 29, 182, 0, 143, 167, 0, 5, 21, 4, 172]
abbrev dktX3_does_8 : List UInt8 := dkwX3_does_8 ++ []
def dkwX3_does_7 : List UInt8 := [21, 4, 172, 29, 16, 253, 6, 184, 0, 70, 153, 0, 12, 42, 28, 29, 182, 0, 119, 167, 0, 5, 21, 4]
abbrev dktX3_does_7 : List UInt8 := dkwX3_does_7 ++ dktX3_does_8
def dkwX3_does_6 : List UInt8 := [182, 0, 137, 172, 29, 4, 16, 9, 184, 0, 70, 153, 0, 12, 42, 28, 29, 182, 0, 140, 167, 0, 5]
abbrev dktX3_does_6 : List UInt8 := dkwX3_does_6 ++ dktX3_does_7
def dkwX3_does_5 : List UInt8 := [42, 29, 182, 0, 131, 153, 0, 12, 42, 28, 29, 182, 0, 134, 167, 0, 5, 21, 4, 172, 42, 28]
abbrev dktX3_does_5 : List UInt8 := dkwX3_does_5 ++ dktX3_does_6
def dkwX3_does_4 : List UInt8 := [170, 0, 0, 0, 99, 0, 0, 0, 0, 0, 0, 0, 3, 0, 0, 0, 29, 0, 0, 0, 49, 0, 0, 0, 55, 0, 0, 0, 77]
abbrev dktX3_does_4 : List UInt8 := dkwX3_does_4 ++ dktX3_does_5
def dkwX3_does_3 : List UInt8 := [154, 0, 6, 21, 4, 172, 42, 180, 0, 25, 6, 27, 104, 46]
abbrev dktX3_does_3 : List UInt8 := dkwX3_does_3 ++ dktX3_does_4
def dkwX3_does_2 : List UInt8 := [184, 0, 70, 153, 0, 11, 42, 28, 182, 0, 146, 167, 0, 5, 21, 4, 172, 42, 28, 182, 0, 116]
abbrev dktX3_does_2 : List UInt8 := dkwX3_does_2 ++ dktX3_does_3
def dkwX3_does_1 : List UInt8 := [16, 13, 3, 182, 0, 95, 54, 4, 42, 180, 0, 25, 6, 27, 104, 46, 8, 160, 0, 24, 28, 4, 16, 40]
abbrev dktX3_does_1 : List UInt8 := dkwX3_does_1 ++ dktX3_does_2
def dkwX3_does_0 : List UInt8 := [42, 180, 0, 25, 6, 27, 104, 4, 96, 46, 61, 42, 180, 0, 25, 6, 27, 104, 5, 96, 46, 62, 42]
abbrev dktX3_does_0 : List UInt8 := dkwX3_does_0 ++ dktX3_does_1
theorem dksX3_does_0 : cX3_does.data.toList.drop 0 = dktX3_does_0 := by decide +kernel
theorem dksX3_does_1 : cX3_does.data.toList.drop 23 = dktX3_does_1 := dk_seg dksX3_does_0 23 rfl rfl
theorem dksX3_does_2 : cX3_does.data.toList.drop 47 = dktX3_does_2 := dk_seg dksX3_does_1 24 rfl rfl
theorem dksX3_does_3 : cX3_does.data.toList.drop 69 = dktX3_does_3 := dk_seg dksX3_does_2 22 rfl rfl
theorem dksX3_does_4 : cX3_does.data.toList.drop 83 = dktX3_does_4 := dk_seg dksX3_does_3 14 rfl rfl
theorem dksX3_does_5 : cX3_does.data.toList.drop 112 = dktX3_does_5 := dk_seg dksX3_does_4 29 rfl rfl
theorem dksX3_does_6 : cX3_does.data.toList.drop 134 = dktX3_does_6 := dk_seg dksX3_does_5 22 rfl rfl
theorem dksX3_does_7 : cX3_does.data.toList.drop 157 = dktX3_does_7 := dk_seg dksX3_does_6 23 rfl rfl
theorem dksX3_does_8 : cX3_does.data.toList.drop 181 = dktX3_does_8 := dk_seg dksX3_does_7 24 rfl rfl
theorem dX3_does_0 : decode cX3_does 0 = .ok (.aload_n 0, 1) := dk_42 (dk_at dksX3_does_0 0 rfl rfl)
theorem dX3_does_1 : decode cX3_does 1 = .ok (.getfield 25, 3) := dk_180 0 25 (dk_at dksX3_does_0 1 rfl rfl)
theorem dX3_does_4 : decode cX3_does 4 = .ok (.iconst 3, 1) := dk_6 (dk_at dksX3_does_0 4 rfl rfl)
theorem dX3_does_5 : decode cX3_does 5 = .ok (.iload_n 1, 1) := dk_27 (dk_at dksX3_does_0 5 rfl rfl)
theorem dX3_does_6 : decode cX3_does 6 = .ok (.imul, 1) := dk_104 (dk_at dksX3_does_0 6 rfl rfl)
theorem dX3_does_7 : decode cX3_does 7 = .ok (.iconst 1, 1) := dk_4 (dk_at dksX3_does_0 7 rfl rfl)
theorem dX3_does_8 : decode cX3_does 8 = .ok (.iadd, 1) := dk_96 (dk_at dksX3_does_0 8 rfl rfl)
theorem dX3_does_9 : decode cX3_does 9 = .ok (.iaload, 1) := dk_46 (dk_at dksX3_does_0 9 rfl rfl)
theorem dX3_does_10 : decode cX3_does 10 = .ok (.istore_n 2, 1) := dk_61 (dk_at dksX3_does_0 10 rfl rfl)
theorem dX3_does_11 : decode cX3_does 11 = .ok (.aload_n 0, 1) := dk_42 (dk_at dksX3_does_0 11 rfl rfl)
theorem dX3_does_12 : decode cX3_does 12 = .ok (.getfield 25, 3) := dk_180 0 25 (dk_at dksX3_does_0 12 rfl rfl)
theorem dX3_does_15 : decode cX3_does 15 = .ok (.iconst 3, 1) := dk_6 (dk_at dksX3_does_0 15 rfl rfl)
theorem dX3_does_16 : decode cX3_does 16 = .ok (.iload_n 1, 1) := dk_27 (dk_at dksX3_does_0 16 rfl rfl)
theorem dX3_does_17 : decode cX3_does 17 = .ok (.imul, 1) := dk_104 (dk_at dksX3_does_0 17 rfl rfl)
theorem dX3_does_18 : decode cX3_does 18 = .ok (.iconst 2, 1) := dk_5 (dk_at dksX3_does_0 18 rfl rfl)
theorem dX3_does_19 : decode cX3_does 19 = .ok (.iadd, 1) := dk_96 (dk_at dksX3_does_0 19 rfl rfl)
theorem dX3_does_20 : decode cX3_does 20 = .ok (.iaload, 1) := dk_46 (dk_at dksX3_does_0 20 rfl rfl)
theorem dX3_does_21 : decode cX3_does 21 = .ok (.istore_n 3, 1) := dk_62 (dk_at dksX3_does_0 21 rfl rfl)
theorem dX3_does_22 : decode cX3_does 22 = .ok (.aload_n 0, 1) := dk_42 (dk_at dksX3_does_0 22 rfl rfl)
theorem dX3_does_23 : decode cX3_does 23 = .ok (.bipush 13, 2) := dk_16 13 (dk_at dksX3_does_1 0 rfl rfl)
theorem dX3_does_25 : decode cX3_does 25 = .ok (.iconst 0, 1) := dk_3 (dk_at dksX3_does_1 2 rfl rfl)
theorem dX3_does_26 : decode cX3_does 26 = .ok (.invokevirtual 95, 3) := dk_182 0 95 (dk_at dksX3_does_1 3 rfl rfl)
theorem dX3_does_29 : decode cX3_does 29 = .ok (.istore 4, 2) := dk_54 4 (dk_at dksX3_does_1 6 rfl rfl)
theorem dX3_does_31 : decode cX3_does 31 = .ok (.aload_n 0, 1) := dk_42 (dk_at dksX3_does_1 8 rfl rfl)
theorem dX3_does_32 : decode cX3_does 32 = .ok (.getfield 25, 3) := dk_180 0 25 (dk_at dksX3_does_1 9 rfl rfl)
theorem dX3_does_35 : decode cX3_does 35 = .ok (.iconst 3, 1) := dk_6 (dk_at dksX3_does_1 12 rfl rfl)
theorem dX3_does_36 : decode cX3_does 36 = .ok (.iload_n 1, 1) := dk_27 (dk_at dksX3_does_1 13 rfl rfl)
theorem dX3_does_37 : decode cX3_does 37 = .ok (.imul, 1) := dk_104 (dk_at dksX3_does_1 14 rfl rfl)
theorem dX3_does_38 : decode cX3_does 38 = .ok (.iaload, 1) := dk_46 (dk_at dksX3_does_1 15 rfl rfl)
theorem dX3_does_39 : decode cX3_does 39 = .ok (.iconst 5, 1) := dk_8 (dk_at dksX3_does_1 16 rfl rfl)
theorem dX3_does_40 : decode cX3_does 40 = .ok (.if_icmp .ne 24, 3) := dk_160 0 24 (dk_at dksX3_does_1 17 rfl rfl)
theorem dX3_does_43 : decode cX3_does 43 = .ok (.iload_n 2, 1) := dk_28 (dk_at dksX3_does_1 20 rfl rfl)
theorem dX3_does_44 : decode cX3_does 44 = .ok (.iconst 1, 1) := dk_4 (dk_at dksX3_does_1 21 rfl rfl)
theorem dX3_does_45 : decode cX3_does 45 = .ok (.bipush 40, 2) := dk_16 40 (dk_at dksX3_does_1 22 rfl rfl)
theorem dX3_does_47 : decode cX3_does 47 = .ok (.invokestatic 70, 3) := dk_184 0 70 (dk_at dksX3_does_2 0 rfl rfl)
theorem dX3_does_50 : decode cX3_does 50 = .ok (.ifCond .eq 11, 3) := dk_153 0 11 (dk_at dksX3_does_2 3 rfl rfl)
theorem dX3_does_53 : decode cX3_does 53 = .ok (.aload_n 0, 1) := dk_42 (dk_at dksX3_does_2 6 rfl rfl)
theorem dX3_does_54 : decode cX3_does 54 = .ok (.iload_n 2, 1) := dk_28 (dk_at dksX3_does_2 7 rfl rfl)
theorem dX3_does_55 : decode cX3_does 55 = .ok (.invokevirtual 146, 3) := dk_182 0 146 (dk_at dksX3_does_2 8 rfl rfl)
theorem dX3_does_58 : decode cX3_does 58 = .ok (.goto 5, 3) := dk_167 0 5 (dk_at dksX3_does_2 11 rfl rfl)
theorem dX3_does_61 : decode cX3_does 61 = .ok (.iload 4, 2) := dk_21 4 (dk_at dksX3_does_2 14 rfl rfl)
theorem dX3_does_63 : decode cX3_does 63 = .ok (.ireturn, 1) := dk_172 (dk_at dksX3_does_2 16 rfl rfl)
theorem dX3_does_64 : decode cX3_does 64 = .ok (.aload_n 0, 1) := dk_42 (dk_at dksX3_does_2 17 rfl rfl)
theorem dX3_does_65 : decode cX3_does 65 = .ok (.iload_n 2, 1) := dk_28 (dk_at dksX3_does_2 18 rfl rfl)
theorem dX3_does_66 : decode cX3_does 66 = .ok (.invokevirtual 116, 3) := dk_182 0 116 (dk_at dksX3_does_2 19 rfl rfl)
theorem dX3_does_69 : decode cX3_does 69 = .ok (.ifCond .ne 6, 3) := dk_154 0 6 (dk_at dksX3_does_3 0 rfl rfl)
theorem dX3_does_72 : decode cX3_does 72 = .ok (.iload 4, 2) := dk_21 4 (dk_at dksX3_does_3 3 rfl rfl)
theorem dX3_does_74 : decode cX3_does 74 = .ok (.ireturn, 1) := dk_172 (dk_at dksX3_does_3 5 rfl rfl)
theorem dX3_does_75 : decode cX3_does 75 = .ok (.aload_n 0, 1) := dk_42 (dk_at dksX3_does_3 6 rfl rfl)
theorem dX3_does_76 : decode cX3_does 76 = .ok (.getfield 25, 3) := dk_180 0 25 (dk_at dksX3_does_3 7 rfl rfl)
theorem dX3_does_79 : decode cX3_does 79 = .ok (.iconst 3, 1) := dk_6 (dk_at dksX3_does_3 10 rfl rfl)
theorem dX3_does_80 : decode cX3_does 80 = .ok (.iload_n 1, 1) := dk_27 (dk_at dksX3_does_3 11 rfl rfl)
theorem dX3_does_81 : decode cX3_does 81 = .ok (.imul, 1) := dk_104 (dk_at dksX3_does_3 12 rfl rfl)
theorem dX3_does_82 : decode cX3_does 82 = .ok (.iaload, 1) := dk_46 (dk_at dksX3_does_3 13 rfl rfl)
theorem dX3_does_83 : decode cX3_does 83 = .ok (.tableswitch 99 0 3 #[29, 49, 55, 77], 29) := by decide +kernel
theorem dX3_does_112 : decode cX3_does 112 = .ok (.aload_n 0, 1) := dk_42 (dk_at dksX3_does_5 0 rfl rfl)
theorem dX3_does_113 : decode cX3_does 113 = .ok (.iload_n 3, 1) := dk_29 (dk_at dksX3_does_5 1 rfl rfl)
theorem dX3_does_114 : decode cX3_does 114 = .ok (.invokevirtual 131, 3) := dk_182 0 131 (dk_at dksX3_does_5 2 rfl rfl)
theorem dX3_does_117 : decode cX3_does 117 = .ok (.ifCond .eq 12, 3) := dk_153 0 12 (dk_at dksX3_does_5 5 rfl rfl)
theorem dX3_does_120 : decode cX3_does 120 = .ok (.aload_n 0, 1) := dk_42 (dk_at dksX3_does_5 8 rfl rfl)
theorem dX3_does_121 : decode cX3_does 121 = .ok (.iload_n 2, 1) := dk_28 (dk_at dksX3_does_5 9 rfl rfl)
theorem dX3_does_122 : decode cX3_does 122 = .ok (.iload_n 3, 1) := dk_29 (dk_at dksX3_does_5 10 rfl rfl)
theorem dX3_does_123 : decode cX3_does 123 = .ok (.invokevirtual 134, 3) := dk_182 0 134 (dk_at dksX3_does_5 11 rfl rfl)
theorem dX3_does_126 : decode cX3_does 126 = .ok (.goto 5, 3) := dk_167 0 5 (dk_at dksX3_does_5 14 rfl rfl)
theorem dX3_does_129 : decode cX3_does 129 = .ok (.iload 4, 2) := dk_21 4 (dk_at dksX3_does_5 17 rfl rfl)
theorem dX3_does_131 : decode cX3_does 131 = .ok (.ireturn, 1) := dk_172 (dk_at dksX3_does_5 19 rfl rfl)
theorem dX3_does_132 : decode cX3_does 132 = .ok (.aload_n 0, 1) := dk_42 (dk_at dksX3_does_5 20 rfl rfl)
theorem dX3_does_133 : decode cX3_does 133 = .ok (.iload_n 2, 1) := dk_28 (dk_at dksX3_does_5 21 rfl rfl)
theorem dX3_does_134 : decode cX3_does 134 = .ok (.invokevirtual 137, 3) := dk_182 0 137 (dk_at dksX3_does_6 0 rfl rfl)
theorem dX3_does_137 : decode cX3_does 137 = .ok (.ireturn, 1) := dk_172 (dk_at dksX3_does_6 3 rfl rfl)
theorem dX3_does_138 : decode cX3_does 138 = .ok (.iload_n 3, 1) := dk_29 (dk_at dksX3_does_6 4 rfl rfl)
theorem dX3_does_139 : decode cX3_does 139 = .ok (.iconst 1, 1) := dk_4 (dk_at dksX3_does_6 5 rfl rfl)
theorem dX3_does_140 : decode cX3_does 140 = .ok (.bipush 9, 2) := dk_16 9 (dk_at dksX3_does_6 6 rfl rfl)
theorem dX3_does_142 : decode cX3_does 142 = .ok (.invokestatic 70, 3) := dk_184 0 70 (dk_at dksX3_does_6 8 rfl rfl)
theorem dX3_does_145 : decode cX3_does 145 = .ok (.ifCond .eq 12, 3) := dk_153 0 12 (dk_at dksX3_does_6 11 rfl rfl)
theorem dX3_does_148 : decode cX3_does 148 = .ok (.aload_n 0, 1) := dk_42 (dk_at dksX3_does_6 14 rfl rfl)
theorem dX3_does_149 : decode cX3_does 149 = .ok (.iload_n 2, 1) := dk_28 (dk_at dksX3_does_6 15 rfl rfl)
theorem dX3_does_150 : decode cX3_does 150 = .ok (.iload_n 3, 1) := dk_29 (dk_at dksX3_does_6 16 rfl rfl)
theorem dX3_does_151 : decode cX3_does 151 = .ok (.invokevirtual 140, 3) := dk_182 0 140 (dk_at dksX3_does_6 17 rfl rfl)
theorem dX3_does_154 : decode cX3_does 154 = .ok (.goto 5, 3) := dk_167 0 5 (dk_at dksX3_does_6 20 rfl rfl)
theorem dX3_does_157 : decode cX3_does 157 = .ok (.iload 4, 2) := dk_21 4 (dk_at dksX3_does_7 0 rfl rfl)
theorem dX3_does_159 : decode cX3_does 159 = .ok (.ireturn, 1) := dk_172 (dk_at dksX3_does_7 2 rfl rfl)
theorem dX3_does_160 : decode cX3_does 160 = .ok (.iload_n 3, 1) := dk_29 (dk_at dksX3_does_7 3 rfl rfl)
theorem dX3_does_161 : decode cX3_does 161 = .ok (.bipush (-3), 2) := dk_16 253 (dk_at dksX3_does_7 4 rfl rfl)
theorem dX3_does_163 : decode cX3_does 163 = .ok (.iconst 3, 1) := dk_6 (dk_at dksX3_does_7 6 rfl rfl)
theorem dX3_does_164 : decode cX3_does 164 = .ok (.invokestatic 70, 3) := dk_184 0 70 (dk_at dksX3_does_7 7 rfl rfl)
theorem dX3_does_167 : decode cX3_does 167 = .ok (.ifCond .eq 12, 3) := dk_153 0 12 (dk_at dksX3_does_7 10 rfl rfl)
theorem dX3_does_170 : decode cX3_does 170 = .ok (.aload_n 0, 1) := dk_42 (dk_at dksX3_does_7 13 rfl rfl)
theorem dX3_does_171 : decode cX3_does 171 = .ok (.iload_n 2, 1) := dk_28 (dk_at dksX3_does_7 14 rfl rfl)
theorem dX3_does_172 : decode cX3_does 172 = .ok (.iload_n 3, 1) := dk_29 (dk_at dksX3_does_7 15 rfl rfl)
theorem dX3_does_173 : decode cX3_does 173 = .ok (.invokevirtual 119, 3) := dk_182 0 119 (dk_at dksX3_does_7 16 rfl rfl)
theorem dX3_does_176 : decode cX3_does 176 = .ok (.goto 5, 3) := dk_167 0 5 (dk_at dksX3_does_7 19 rfl rfl)
theorem dX3_does_179 : decode cX3_does 179 = .ok (.iload 4, 2) := dk_21 4 (dk_at dksX3_does_7 22 rfl rfl)
theorem dX3_does_181 : decode cX3_does 181 = .ok (.ireturn, 1) := dk_172 (dk_at dksX3_does_8 0 rfl rfl)
theorem dX3_does_182 : decode cX3_does 182 = .ok (.iload_n 3, 1) := dk_29 (dk_at dksX3_does_8 1 rfl rfl)
theorem dX3_does_183 : decode cX3_does 183 = .ok (.iconst 1, 1) := dk_4 (dk_at dksX3_does_8 2 rfl rfl)
theorem dX3_does_184 : decode cX3_does 184 = .ok (.bipush 99, 2) := dk_16 99 (dk_at dksX3_does_8 3 rfl rfl)
theorem dX3_does_186 : decode cX3_does 186 = .ok (.invokestatic 70, 3) := dk_184 0 70 (dk_at dksX3_does_8 5 rfl rfl)
theorem dX3_does_189 : decode cX3_does 189 = .ok (.ifCond .eq 12, 3) := dk_153 0 12 (dk_at dksX3_does_8 8 rfl rfl)
theorem dX3_does_192 : decode cX3_does 192 = .ok (.aload_n 0, 1) := dk_42 (dk_at dksX3_does_8 11 rfl rfl)
theorem dX3_does_193 : decode cX3_does 193 = .ok (.iload_n 2, 1) := dk_28 (dk_at dksX3_does_8 12 rfl rfl)
theorem dX3_does_194 : decode cX3_does 194 = .ok (.iload_n 3, 1) := dk_29 (dk_at dksX3_does_8 13 rfl rfl)
theorem dX3_does_195 : decode cX3_does 195 = .ok (.invokevirtual 143, 3) := dk_182 0 143 (dk_at dksX3_does_8 14 rfl rfl)
theorem dX3_does_198 : decode cX3_does 198 = .ok (.goto 5, 3) := dk_167 0 5 (dk_at dksX3_does_8 17 rfl rfl)
theorem dX3_does_201 : decode cX3_does 201 = .ok (.iload 4, 2) := dk_21 4 (dk_at dksX3_does_8 20 rfl rfl)
theorem dX3_does_203 : decode cX3_does 203 = .ok (.ireturn, 1) := dk_172 (dk_at dksX3_does_8 22 rfl rfl)
abbrev cX3_errorPosition : ByteArray := prog_20_method_62_code
def yX3_errorPosition : MethodName := ⟨RX3, "errorPosition", "()I"⟩
def dkwX3_errorPosition_1 : List UInt8 := [180, 0, 37, 172]
abbrev dktX3_errorPosition_1 : List UInt8 := dkwX3_errorPosition_1 ++ []
def dkwX3_errorPosition_0 : List UInt8 := [42, 3, 181, 0, 41, 42, 180, 0, 37, 2, 160, 0, 11, 42, 4, 182, 0, 67, 167, 0, 7, 42]
abbrev dktX3_errorPosition_0 : List UInt8 := dkwX3_errorPosition_0 ++ dktX3_errorPosition_1
theorem dksX3_errorPosition_0 : cX3_errorPosition.data.toList.drop 0 = dktX3_errorPosition_0 := by decide +kernel
theorem dksX3_errorPosition_1 : cX3_errorPosition.data.toList.drop 22 = dktX3_errorPosition_1 := dk_seg dksX3_errorPosition_0 22 rfl rfl
theorem dX3_errorPosition_0 : decode cX3_errorPosition 0 = .ok (.aload_n 0, 1) := dk_42 (dk_at dksX3_errorPosition_0 0 rfl rfl)
theorem dX3_errorPosition_1 : decode cX3_errorPosition 1 = .ok (.iconst 0, 1) := dk_3 (dk_at dksX3_errorPosition_0 1 rfl rfl)
theorem dX3_errorPosition_2 : decode cX3_errorPosition 2 = .ok (.putfield 41, 3) := dk_181 0 41 (dk_at dksX3_errorPosition_0 2 rfl rfl)
theorem dX3_errorPosition_5 : decode cX3_errorPosition 5 = .ok (.aload_n 0, 1) := dk_42 (dk_at dksX3_errorPosition_0 5 rfl rfl)
theorem dX3_errorPosition_6 : decode cX3_errorPosition 6 = .ok (.getfield 37, 3) := dk_180 0 37 (dk_at dksX3_errorPosition_0 6 rfl rfl)
theorem dX3_errorPosition_9 : decode cX3_errorPosition 9 = .ok (.iconst (-1), 1) := dk_2 (dk_at dksX3_errorPosition_0 9 rfl rfl)
theorem dX3_errorPosition_10 : decode cX3_errorPosition 10 = .ok (.if_icmp .ne 11, 3) := dk_160 0 11 (dk_at dksX3_errorPosition_0 10 rfl rfl)
theorem dX3_errorPosition_13 : decode cX3_errorPosition 13 = .ok (.aload_n 0, 1) := dk_42 (dk_at dksX3_errorPosition_0 13 rfl rfl)
theorem dX3_errorPosition_14 : decode cX3_errorPosition 14 = .ok (.iconst 1, 1) := dk_4 (dk_at dksX3_errorPosition_0 14 rfl rfl)
theorem dX3_errorPosition_15 : decode cX3_errorPosition 15 = .ok (.invokevirtual 67, 3) := dk_182 0 67 (dk_at dksX3_errorPosition_0 15 rfl rfl)
theorem dX3_errorPosition_18 : decode cX3_errorPosition 18 = .ok (.goto 7, 3) := dk_167 0 7 (dk_at dksX3_errorPosition_0 18 rfl rfl)
theorem dX3_errorPosition_21 : decode cX3_errorPosition 21 = .ok (.aload_n 0, 1) := dk_42 (dk_at dksX3_errorPosition_0 21 rfl rfl)
theorem dX3_errorPosition_22 : decode cX3_errorPosition 22 = .ok (.getfield 37, 3) := dk_180 0 37 (dk_at dksX3_errorPosition_1 0 rfl rfl)
theorem dX3_errorPosition_25 : decode cX3_errorPosition 25 = .ok (.ireturn, 1) := dk_172 (dk_at dksX3_errorPosition_1 3 rfl rfl)
abbrev cX3_refusal : ByteArray := prog_20_method_63_code
def yX3_refusal : MethodName := ⟨RX3, "refusal", "(IZ)I"⟩
def dkwX3_refusal_2 : List UInt8 := [42, 180, 0, 31, 27, 46, 172]
abbrev dktX3_refusal_2 : List UInt8 := dkwX3_refusal_2 ++ []
def dkwX3_refusal_1 : List UInt8 := [27, 46, 154, 0, 9, 42, 5, 182, 0, 67, 172, 28, 153, 0, 12, 42, 180, 0, 34, 27, 46, 167, 0, 9]
abbrev dktX3_refusal_1 : List UInt8 := dkwX3_refusal_1 ++ dktX3_refusal_2
def dkwX3_refusal_0 : List UInt8 := [42, 3, 181, 0, 41, 27, 3, 5, 184, 0, 70, 154, 0, 9, 42, 4, 182, 0, 67, 172, 42, 180, 0, 31]
abbrev dktX3_refusal_0 : List UInt8 := dkwX3_refusal_0 ++ dktX3_refusal_1
theorem dksX3_refusal_0 : cX3_refusal.data.toList.drop 0 = dktX3_refusal_0 := by decide +kernel
theorem dksX3_refusal_1 : cX3_refusal.data.toList.drop 24 = dktX3_refusal_1 := dk_seg dksX3_refusal_0 24 rfl rfl
theorem dksX3_refusal_2 : cX3_refusal.data.toList.drop 48 = dktX3_refusal_2 := dk_seg dksX3_refusal_1 24 rfl rfl
theorem dX3_refusal_0 : decode cX3_refusal 0 = .ok (.aload_n 0, 1) := dk_42 (dk_at dksX3_refusal_0 0 rfl rfl)
theorem dX3_refusal_1 : decode cX3_refusal 1 = .ok (.iconst 0, 1) := dk_3 (dk_at dksX3_refusal_0 1 rfl rfl)
theorem dX3_refusal_2 : decode cX3_refusal 2 = .ok (.putfield 41, 3) := dk_181 0 41 (dk_at dksX3_refusal_0 2 rfl rfl)
theorem dX3_refusal_5 : decode cX3_refusal 5 = .ok (.iload_n 1, 1) := dk_27 (dk_at dksX3_refusal_0 5 rfl rfl)
theorem dX3_refusal_6 : decode cX3_refusal 6 = .ok (.iconst 0, 1) := dk_3 (dk_at dksX3_refusal_0 6 rfl rfl)
theorem dX3_refusal_7 : decode cX3_refusal 7 = .ok (.iconst 2, 1) := dk_5 (dk_at dksX3_refusal_0 7 rfl rfl)
theorem dX3_refusal_8 : decode cX3_refusal 8 = .ok (.invokestatic 70, 3) := dk_184 0 70 (dk_at dksX3_refusal_0 8 rfl rfl)
theorem dX3_refusal_11 : decode cX3_refusal 11 = .ok (.ifCond .ne 9, 3) := dk_154 0 9 (dk_at dksX3_refusal_0 11 rfl rfl)
theorem dX3_refusal_14 : decode cX3_refusal 14 = .ok (.aload_n 0, 1) := dk_42 (dk_at dksX3_refusal_0 14 rfl rfl)
theorem dX3_refusal_15 : decode cX3_refusal 15 = .ok (.iconst 1, 1) := dk_4 (dk_at dksX3_refusal_0 15 rfl rfl)
theorem dX3_refusal_16 : decode cX3_refusal 16 = .ok (.invokevirtual 67, 3) := dk_182 0 67 (dk_at dksX3_refusal_0 16 rfl rfl)
theorem dX3_refusal_19 : decode cX3_refusal 19 = .ok (.ireturn, 1) := dk_172 (dk_at dksX3_refusal_0 19 rfl rfl)
theorem dX3_refusal_20 : decode cX3_refusal 20 = .ok (.aload_n 0, 1) := dk_42 (dk_at dksX3_refusal_0 20 rfl rfl)
theorem dX3_refusal_21 : decode cX3_refusal 21 = .ok (.getfield 31, 3) := dk_180 0 31 (dk_at dksX3_refusal_0 21 rfl rfl)
theorem dX3_refusal_24 : decode cX3_refusal 24 = .ok (.iload_n 1, 1) := dk_27 (dk_at dksX3_refusal_1 0 rfl rfl)
theorem dX3_refusal_25 : decode cX3_refusal 25 = .ok (.iaload, 1) := dk_46 (dk_at dksX3_refusal_1 1 rfl rfl)
theorem dX3_refusal_26 : decode cX3_refusal 26 = .ok (.ifCond .ne 9, 3) := dk_154 0 9 (dk_at dksX3_refusal_1 2 rfl rfl)
theorem dX3_refusal_29 : decode cX3_refusal 29 = .ok (.aload_n 0, 1) := dk_42 (dk_at dksX3_refusal_1 5 rfl rfl)
theorem dX3_refusal_30 : decode cX3_refusal 30 = .ok (.iconst 2, 1) := dk_5 (dk_at dksX3_refusal_1 6 rfl rfl)
theorem dX3_refusal_31 : decode cX3_refusal 31 = .ok (.invokevirtual 67, 3) := dk_182 0 67 (dk_at dksX3_refusal_1 7 rfl rfl)
theorem dX3_refusal_34 : decode cX3_refusal 34 = .ok (.ireturn, 1) := dk_172 (dk_at dksX3_refusal_1 10 rfl rfl)
theorem dX3_refusal_35 : decode cX3_refusal 35 = .ok (.iload_n 2, 1) := dk_28 (dk_at dksX3_refusal_1 11 rfl rfl)
theorem dX3_refusal_36 : decode cX3_refusal 36 = .ok (.ifCond .eq 12, 3) := dk_153 0 12 (dk_at dksX3_refusal_1 12 rfl rfl)
theorem dX3_refusal_39 : decode cX3_refusal 39 = .ok (.aload_n 0, 1) := dk_42 (dk_at dksX3_refusal_1 15 rfl rfl)
theorem dX3_refusal_40 : decode cX3_refusal 40 = .ok (.getfield 34, 3) := dk_180 0 34 (dk_at dksX3_refusal_1 16 rfl rfl)
theorem dX3_refusal_43 : decode cX3_refusal 43 = .ok (.iload_n 1, 1) := dk_27 (dk_at dksX3_refusal_1 19 rfl rfl)
theorem dX3_refusal_44 : decode cX3_refusal 44 = .ok (.iaload, 1) := dk_46 (dk_at dksX3_refusal_1 20 rfl rfl)
theorem dX3_refusal_45 : decode cX3_refusal 45 = .ok (.goto 9, 3) := dk_167 0 9 (dk_at dksX3_refusal_1 21 rfl rfl)
theorem dX3_refusal_48 : decode cX3_refusal 48 = .ok (.aload_n 0, 1) := dk_42 (dk_at dksX3_refusal_2 0 rfl rfl)
theorem dX3_refusal_49 : decode cX3_refusal 49 = .ok (.getfield 31, 3) := dk_180 0 31 (dk_at dksX3_refusal_2 1 rfl rfl)
theorem dX3_refusal_52 : decode cX3_refusal 52 = .ok (.iload_n 1, 1) := dk_27 (dk_at dksX3_refusal_2 4 rfl rfl)
theorem dX3_refusal_53 : decode cX3_refusal 53 = .ok (.iaload, 1) := dk_46 (dk_at dksX3_refusal_2 5 rfl rfl)
theorem dX3_refusal_54 : decode cX3_refusal 54 = .ok (.ireturn, 1) := dk_172 (dk_at dksX3_refusal_2 6 rfl rfl)
abbrev cX3_describe : ByteArray := prog_20_method_67_code
def yX3_describe : MethodName := ⟨RX3, "describe", "(I)I"⟩
def dkwX3_describe_6 : List UInt8 := [182, 0, 233, 42, 180, 0, 222, 172]
abbrev dktX3_describe_6 : List UInt8 := dkwX3_describe_6 ++ []
def dkwX3_describe_5 : List UInt8 := [180, 0, 7, 16, 65, 27, 96, 46, 182, 0, 228, 42, 27, 182, 0, 78, 153, 0, 9, 42, 18, 237]
abbrev dktX3_describe_5 : List UInt8 := dkwX3_describe_5 ++ dktX3_describe_6
def dkwX3_describe_4 : List UInt8 := [182, 0, 228, 42, 180, 0, 7, 16, 65, 27, 96, 46, 2, 159, 0, 22, 42, 18, 231, 182, 0, 233, 42, 42]
abbrev dktX3_describe_4 : List UInt8 := dkwX3_describe_4 ++ dktX3_describe_5
def dkwX3_describe_3 : List UInt8 := [16, 35, 27, 96, 46, 158, 0, 22, 42, 16, 47, 182, 0, 225, 42, 42, 180, 0, 7, 16, 35, 27, 96, 46]
abbrev dktX3_describe_3 : List UInt8 := dkwX3_describe_3 ++ dktX3_describe_4
def dkwX3_describe_2 : List UInt8 := [42, 16, 32, 182, 0, 225, 42, 42, 180, 0, 7, 16, 25, 27, 96, 46, 182, 0, 228, 42, 180, 0, 7]
abbrev dktX3_describe_2 : List UInt8 := dkwX3_describe_2 ++ dktX3_describe_3
def dkwX3_describe_1 : List UInt8 := [42, 27, 182, 0, 228, 42, 16, 64, 182, 0, 225, 42, 42, 180, 0, 7, 16, 15, 27, 96, 46, 182, 0, 228]
abbrev dktX3_describe_1 : List UInt8 := dkwX3_describe_1 ++ dktX3_describe_2
def dkwX3_describe_0 : List UInt8 := [42, 3, 181, 0, 41, 42, 27, 182, 0, 116, 154, 0, 9, 42, 4, 182, 0, 67, 172, 42, 3, 181, 0, 222]
abbrev dktX3_describe_0 : List UInt8 := dkwX3_describe_0 ++ dktX3_describe_1
theorem dksX3_describe_0 : cX3_describe.data.toList.drop 0 = dktX3_describe_0 := by decide +kernel
theorem dksX3_describe_1 : cX3_describe.data.toList.drop 24 = dktX3_describe_1 := dk_seg dksX3_describe_0 24 rfl rfl
theorem dksX3_describe_2 : cX3_describe.data.toList.drop 48 = dktX3_describe_2 := dk_seg dksX3_describe_1 24 rfl rfl
theorem dksX3_describe_3 : cX3_describe.data.toList.drop 71 = dktX3_describe_3 := dk_seg dksX3_describe_2 23 rfl rfl
theorem dksX3_describe_4 : cX3_describe.data.toList.drop 95 = dktX3_describe_4 := dk_seg dksX3_describe_3 24 rfl rfl
theorem dksX3_describe_5 : cX3_describe.data.toList.drop 119 = dktX3_describe_5 := dk_seg dksX3_describe_4 24 rfl rfl
theorem dksX3_describe_6 : cX3_describe.data.toList.drop 141 = dktX3_describe_6 := dk_seg dksX3_describe_5 22 rfl rfl
theorem dX3_describe_0 : decode cX3_describe 0 = .ok (.aload_n 0, 1) := dk_42 (dk_at dksX3_describe_0 0 rfl rfl)
theorem dX3_describe_1 : decode cX3_describe 1 = .ok (.iconst 0, 1) := dk_3 (dk_at dksX3_describe_0 1 rfl rfl)
theorem dX3_describe_2 : decode cX3_describe 2 = .ok (.putfield 41, 3) := dk_181 0 41 (dk_at dksX3_describe_0 2 rfl rfl)
theorem dX3_describe_5 : decode cX3_describe 5 = .ok (.aload_n 0, 1) := dk_42 (dk_at dksX3_describe_0 5 rfl rfl)
theorem dX3_describe_6 : decode cX3_describe 6 = .ok (.iload_n 1, 1) := dk_27 (dk_at dksX3_describe_0 6 rfl rfl)
theorem dX3_describe_7 : decode cX3_describe 7 = .ok (.invokevirtual 116, 3) := dk_182 0 116 (dk_at dksX3_describe_0 7 rfl rfl)
theorem dX3_describe_10 : decode cX3_describe 10 = .ok (.ifCond .ne 9, 3) := dk_154 0 9 (dk_at dksX3_describe_0 10 rfl rfl)
theorem dX3_describe_13 : decode cX3_describe 13 = .ok (.aload_n 0, 1) := dk_42 (dk_at dksX3_describe_0 13 rfl rfl)
theorem dX3_describe_14 : decode cX3_describe 14 = .ok (.iconst 1, 1) := dk_4 (dk_at dksX3_describe_0 14 rfl rfl)
theorem dX3_describe_15 : decode cX3_describe 15 = .ok (.invokevirtual 67, 3) := dk_182 0 67 (dk_at dksX3_describe_0 15 rfl rfl)
theorem dX3_describe_18 : decode cX3_describe 18 = .ok (.ireturn, 1) := dk_172 (dk_at dksX3_describe_0 18 rfl rfl)
theorem dX3_describe_19 : decode cX3_describe 19 = .ok (.aload_n 0, 1) := dk_42 (dk_at dksX3_describe_0 19 rfl rfl)
theorem dX3_describe_20 : decode cX3_describe 20 = .ok (.iconst 0, 1) := dk_3 (dk_at dksX3_describe_0 20 rfl rfl)
theorem dX3_describe_21 : decode cX3_describe 21 = .ok (.putfield 222, 3) := dk_181 0 222 (dk_at dksX3_describe_0 21 rfl rfl)
theorem dX3_describe_24 : decode cX3_describe 24 = .ok (.aload_n 0, 1) := dk_42 (dk_at dksX3_describe_1 0 rfl rfl)
theorem dX3_describe_25 : decode cX3_describe 25 = .ok (.iload_n 1, 1) := dk_27 (dk_at dksX3_describe_1 1 rfl rfl)
theorem dX3_describe_26 : decode cX3_describe 26 = .ok (.invokevirtual 228, 3) := dk_182 0 228 (dk_at dksX3_describe_1 2 rfl rfl)
theorem dX3_describe_29 : decode cX3_describe 29 = .ok (.aload_n 0, 1) := dk_42 (dk_at dksX3_describe_1 5 rfl rfl)
theorem dX3_describe_30 : decode cX3_describe 30 = .ok (.bipush 64, 2) := dk_16 64 (dk_at dksX3_describe_1 6 rfl rfl)
theorem dX3_describe_32 : decode cX3_describe 32 = .ok (.invokevirtual 225, 3) := dk_182 0 225 (dk_at dksX3_describe_1 8 rfl rfl)
theorem dX3_describe_35 : decode cX3_describe 35 = .ok (.aload_n 0, 1) := dk_42 (dk_at dksX3_describe_1 11 rfl rfl)
theorem dX3_describe_36 : decode cX3_describe 36 = .ok (.aload_n 0, 1) := dk_42 (dk_at dksX3_describe_1 12 rfl rfl)
theorem dX3_describe_37 : decode cX3_describe 37 = .ok (.getfield 7, 3) := dk_180 0 7 (dk_at dksX3_describe_1 13 rfl rfl)
theorem dX3_describe_40 : decode cX3_describe 40 = .ok (.bipush 15, 2) := dk_16 15 (dk_at dksX3_describe_1 16 rfl rfl)
theorem dX3_describe_42 : decode cX3_describe 42 = .ok (.iload_n 1, 1) := dk_27 (dk_at dksX3_describe_1 18 rfl rfl)
theorem dX3_describe_43 : decode cX3_describe 43 = .ok (.iadd, 1) := dk_96 (dk_at dksX3_describe_1 19 rfl rfl)
theorem dX3_describe_44 : decode cX3_describe 44 = .ok (.iaload, 1) := dk_46 (dk_at dksX3_describe_1 20 rfl rfl)
theorem dX3_describe_45 : decode cX3_describe 45 = .ok (.invokevirtual 228, 3) := dk_182 0 228 (dk_at dksX3_describe_1 21 rfl rfl)
theorem dX3_describe_48 : decode cX3_describe 48 = .ok (.aload_n 0, 1) := dk_42 (dk_at dksX3_describe_2 0 rfl rfl)
theorem dX3_describe_49 : decode cX3_describe 49 = .ok (.bipush 32, 2) := dk_16 32 (dk_at dksX3_describe_2 1 rfl rfl)
theorem dX3_describe_51 : decode cX3_describe 51 = .ok (.invokevirtual 225, 3) := dk_182 0 225 (dk_at dksX3_describe_2 3 rfl rfl)
theorem dX3_describe_54 : decode cX3_describe 54 = .ok (.aload_n 0, 1) := dk_42 (dk_at dksX3_describe_2 6 rfl rfl)
theorem dX3_describe_55 : decode cX3_describe 55 = .ok (.aload_n 0, 1) := dk_42 (dk_at dksX3_describe_2 7 rfl rfl)
theorem dX3_describe_56 : decode cX3_describe 56 = .ok (.getfield 7, 3) := dk_180 0 7 (dk_at dksX3_describe_2 8 rfl rfl)
theorem dX3_describe_59 : decode cX3_describe 59 = .ok (.bipush 25, 2) := dk_16 25 (dk_at dksX3_describe_2 11 rfl rfl)
theorem dX3_describe_61 : decode cX3_describe 61 = .ok (.iload_n 1, 1) := dk_27 (dk_at dksX3_describe_2 13 rfl rfl)
theorem dX3_describe_62 : decode cX3_describe 62 = .ok (.iadd, 1) := dk_96 (dk_at dksX3_describe_2 14 rfl rfl)
theorem dX3_describe_63 : decode cX3_describe 63 = .ok (.iaload, 1) := dk_46 (dk_at dksX3_describe_2 15 rfl rfl)
theorem dX3_describe_64 : decode cX3_describe 64 = .ok (.invokevirtual 228, 3) := dk_182 0 228 (dk_at dksX3_describe_2 16 rfl rfl)
theorem dX3_describe_67 : decode cX3_describe 67 = .ok (.aload_n 0, 1) := dk_42 (dk_at dksX3_describe_2 19 rfl rfl)
theorem dX3_describe_68 : decode cX3_describe 68 = .ok (.getfield 7, 3) := dk_180 0 7 (dk_at dksX3_describe_2 20 rfl rfl)
theorem dX3_describe_71 : decode cX3_describe 71 = .ok (.bipush 35, 2) := dk_16 35 (dk_at dksX3_describe_3 0 rfl rfl)
theorem dX3_describe_73 : decode cX3_describe 73 = .ok (.iload_n 1, 1) := dk_27 (dk_at dksX3_describe_3 2 rfl rfl)
theorem dX3_describe_74 : decode cX3_describe 74 = .ok (.iadd, 1) := dk_96 (dk_at dksX3_describe_3 3 rfl rfl)
theorem dX3_describe_75 : decode cX3_describe 75 = .ok (.iaload, 1) := dk_46 (dk_at dksX3_describe_3 4 rfl rfl)
theorem dX3_describe_76 : decode cX3_describe 76 = .ok (.ifCond .le 22, 3) := dk_158 0 22 (dk_at dksX3_describe_3 5 rfl rfl)
theorem dX3_describe_79 : decode cX3_describe 79 = .ok (.aload_n 0, 1) := dk_42 (dk_at dksX3_describe_3 8 rfl rfl)
theorem dX3_describe_80 : decode cX3_describe 80 = .ok (.bipush 47, 2) := dk_16 47 (dk_at dksX3_describe_3 9 rfl rfl)
theorem dX3_describe_82 : decode cX3_describe 82 = .ok (.invokevirtual 225, 3) := dk_182 0 225 (dk_at dksX3_describe_3 11 rfl rfl)
theorem dX3_describe_85 : decode cX3_describe 85 = .ok (.aload_n 0, 1) := dk_42 (dk_at dksX3_describe_3 14 rfl rfl)
theorem dX3_describe_86 : decode cX3_describe 86 = .ok (.aload_n 0, 1) := dk_42 (dk_at dksX3_describe_3 15 rfl rfl)
theorem dX3_describe_87 : decode cX3_describe 87 = .ok (.getfield 7, 3) := dk_180 0 7 (dk_at dksX3_describe_3 16 rfl rfl)
theorem dX3_describe_90 : decode cX3_describe 90 = .ok (.bipush 35, 2) := dk_16 35 (dk_at dksX3_describe_3 19 rfl rfl)
theorem dX3_describe_92 : decode cX3_describe 92 = .ok (.iload_n 1, 1) := dk_27 (dk_at dksX3_describe_3 21 rfl rfl)
theorem dX3_describe_93 : decode cX3_describe 93 = .ok (.iadd, 1) := dk_96 (dk_at dksX3_describe_3 22 rfl rfl)
theorem dX3_describe_94 : decode cX3_describe 94 = .ok (.iaload, 1) := dk_46 (dk_at dksX3_describe_3 23 rfl rfl)
theorem dX3_describe_95 : decode cX3_describe 95 = .ok (.invokevirtual 228, 3) := dk_182 0 228 (dk_at dksX3_describe_4 0 rfl rfl)
theorem dX3_describe_98 : decode cX3_describe 98 = .ok (.aload_n 0, 1) := dk_42 (dk_at dksX3_describe_4 3 rfl rfl)
theorem dX3_describe_99 : decode cX3_describe 99 = .ok (.getfield 7, 3) := dk_180 0 7 (dk_at dksX3_describe_4 4 rfl rfl)
theorem dX3_describe_102 : decode cX3_describe 102 = .ok (.bipush 65, 2) := dk_16 65 (dk_at dksX3_describe_4 7 rfl rfl)
theorem dX3_describe_104 : decode cX3_describe 104 = .ok (.iload_n 1, 1) := dk_27 (dk_at dksX3_describe_4 9 rfl rfl)
theorem dX3_describe_105 : decode cX3_describe 105 = .ok (.iadd, 1) := dk_96 (dk_at dksX3_describe_4 10 rfl rfl)
theorem dX3_describe_106 : decode cX3_describe 106 = .ok (.iaload, 1) := dk_46 (dk_at dksX3_describe_4 11 rfl rfl)
theorem dX3_describe_107 : decode cX3_describe 107 = .ok (.iconst (-1), 1) := dk_2 (dk_at dksX3_describe_4 12 rfl rfl)
theorem dX3_describe_108 : decode cX3_describe 108 = .ok (.if_icmp .eq 22, 3) := dk_159 0 22 (dk_at dksX3_describe_4 13 rfl rfl)
theorem dX3_describe_111 : decode cX3_describe 111 = .ok (.aload_n 0, 1) := dk_42 (dk_at dksX3_describe_4 16 rfl rfl)
theorem dX3_describe_112 : decode cX3_describe 112 = .ok (.ldc 231, 2) := dk_18 231 (dk_at dksX3_describe_4 17 rfl rfl)
theorem dX3_describe_114 : decode cX3_describe 114 = .ok (.invokevirtual 233, 3) := dk_182 0 233 (dk_at dksX3_describe_4 19 rfl rfl)
theorem dX3_describe_117 : decode cX3_describe 117 = .ok (.aload_n 0, 1) := dk_42 (dk_at dksX3_describe_4 22 rfl rfl)
theorem dX3_describe_118 : decode cX3_describe 118 = .ok (.aload_n 0, 1) := dk_42 (dk_at dksX3_describe_4 23 rfl rfl)
theorem dX3_describe_119 : decode cX3_describe 119 = .ok (.getfield 7, 3) := dk_180 0 7 (dk_at dksX3_describe_5 0 rfl rfl)
theorem dX3_describe_122 : decode cX3_describe 122 = .ok (.bipush 65, 2) := dk_16 65 (dk_at dksX3_describe_5 3 rfl rfl)
theorem dX3_describe_124 : decode cX3_describe 124 = .ok (.iload_n 1, 1) := dk_27 (dk_at dksX3_describe_5 5 rfl rfl)
theorem dX3_describe_125 : decode cX3_describe 125 = .ok (.iadd, 1) := dk_96 (dk_at dksX3_describe_5 6 rfl rfl)
theorem dX3_describe_126 : decode cX3_describe 126 = .ok (.iaload, 1) := dk_46 (dk_at dksX3_describe_5 7 rfl rfl)
theorem dX3_describe_127 : decode cX3_describe 127 = .ok (.invokevirtual 228, 3) := dk_182 0 228 (dk_at dksX3_describe_5 8 rfl rfl)
theorem dX3_describe_130 : decode cX3_describe 130 = .ok (.aload_n 0, 1) := dk_42 (dk_at dksX3_describe_5 11 rfl rfl)
theorem dX3_describe_131 : decode cX3_describe 131 = .ok (.iload_n 1, 1) := dk_27 (dk_at dksX3_describe_5 12 rfl rfl)
theorem dX3_describe_132 : decode cX3_describe 132 = .ok (.invokevirtual 78, 3) := dk_182 0 78 (dk_at dksX3_describe_5 13 rfl rfl)
theorem dX3_describe_135 : decode cX3_describe 135 = .ok (.ifCond .eq 9, 3) := dk_153 0 9 (dk_at dksX3_describe_5 16 rfl rfl)
theorem dX3_describe_138 : decode cX3_describe 138 = .ok (.aload_n 0, 1) := dk_42 (dk_at dksX3_describe_5 19 rfl rfl)
theorem dX3_describe_139 : decode cX3_describe 139 = .ok (.ldc 237, 2) := dk_18 237 (dk_at dksX3_describe_5 20 rfl rfl)
theorem dX3_describe_141 : decode cX3_describe 141 = .ok (.invokevirtual 233, 3) := dk_182 0 233 (dk_at dksX3_describe_6 0 rfl rfl)
theorem dX3_describe_144 : decode cX3_describe 144 = .ok (.aload_n 0, 1) := dk_42 (dk_at dksX3_describe_6 3 rfl rfl)
theorem dX3_describe_145 : decode cX3_describe 145 = .ok (.getfield 222, 3) := dk_180 0 222 (dk_at dksX3_describe_6 4 rfl rfl)
theorem dX3_describe_148 : decode cX3_describe 148 = .ok (.ireturn, 1) := dk_172 (dk_at dksX3_describe_6 7 rfl rfl)
abbrev cX3_putsNumber : ByteArray := prog_20_method_65_code
def yX3_putsNumber : MethodName := ⟨RX3, "putsNumber", "(I)V"⟩
def dkwX3_putsNumber_1 : List UInt8 := [42, 16, 48, 27, 29, 108, 16, 10, 112, 96, 182, 0, 225, 29, 16, 10, 108, 62, 167, 255, 234, 177]
abbrev dktX3_putsNumber_1 : List UInt8 := dkwX3_putsNumber_1 ++ []
def dkwX3_putsNumber_0 : List UInt8 := [4, 61, 27, 28, 108, 16, 9, 164, 0, 11, 28, 16, 10, 104, 61, 167, 255, 243, 28, 62, 29, 158, 0, 24]
abbrev dktX3_putsNumber_0 : List UInt8 := dkwX3_putsNumber_0 ++ dktX3_putsNumber_1
theorem dksX3_putsNumber_0 : cX3_putsNumber.data.toList.drop 0 = dktX3_putsNumber_0 := by decide +kernel
theorem dksX3_putsNumber_1 : cX3_putsNumber.data.toList.drop 24 = dktX3_putsNumber_1 := dk_seg dksX3_putsNumber_0 24 rfl rfl
theorem dX3_putsNumber_0 : decode cX3_putsNumber 0 = .ok (.iconst 1, 1) := dk_4 (dk_at dksX3_putsNumber_0 0 rfl rfl)
theorem dX3_putsNumber_1 : decode cX3_putsNumber 1 = .ok (.istore_n 2, 1) := dk_61 (dk_at dksX3_putsNumber_0 1 rfl rfl)
theorem dX3_putsNumber_2 : decode cX3_putsNumber 2 = .ok (.iload_n 1, 1) := dk_27 (dk_at dksX3_putsNumber_0 2 rfl rfl)
theorem dX3_putsNumber_3 : decode cX3_putsNumber 3 = .ok (.iload_n 2, 1) := dk_28 (dk_at dksX3_putsNumber_0 3 rfl rfl)
theorem dX3_putsNumber_4 : decode cX3_putsNumber 4 = .ok (.idiv, 1) := dk_108 (dk_at dksX3_putsNumber_0 4 rfl rfl)
theorem dX3_putsNumber_5 : decode cX3_putsNumber 5 = .ok (.bipush 9, 2) := dk_16 9 (dk_at dksX3_putsNumber_0 5 rfl rfl)
theorem dX3_putsNumber_7 : decode cX3_putsNumber 7 = .ok (.if_icmp .le 11, 3) := dk_164 0 11 (dk_at dksX3_putsNumber_0 7 rfl rfl)
theorem dX3_putsNumber_10 : decode cX3_putsNumber 10 = .ok (.iload_n 2, 1) := dk_28 (dk_at dksX3_putsNumber_0 10 rfl rfl)
theorem dX3_putsNumber_11 : decode cX3_putsNumber 11 = .ok (.bipush 10, 2) := dk_16 10 (dk_at dksX3_putsNumber_0 11 rfl rfl)
theorem dX3_putsNumber_13 : decode cX3_putsNumber 13 = .ok (.imul, 1) := dk_104 (dk_at dksX3_putsNumber_0 13 rfl rfl)
theorem dX3_putsNumber_14 : decode cX3_putsNumber 14 = .ok (.istore_n 2, 1) := dk_61 (dk_at dksX3_putsNumber_0 14 rfl rfl)
theorem dX3_putsNumber_15 : decode cX3_putsNumber 15 = .ok (.goto (-13), 3) := dk_167 255 243 (dk_at dksX3_putsNumber_0 15 rfl rfl)
theorem dX3_putsNumber_18 : decode cX3_putsNumber 18 = .ok (.iload_n 2, 1) := dk_28 (dk_at dksX3_putsNumber_0 18 rfl rfl)
theorem dX3_putsNumber_19 : decode cX3_putsNumber 19 = .ok (.istore_n 3, 1) := dk_62 (dk_at dksX3_putsNumber_0 19 rfl rfl)
theorem dX3_putsNumber_20 : decode cX3_putsNumber 20 = .ok (.iload_n 3, 1) := dk_29 (dk_at dksX3_putsNumber_0 20 rfl rfl)
theorem dX3_putsNumber_21 : decode cX3_putsNumber 21 = .ok (.ifCond .le 24, 3) := dk_158 0 24 (dk_at dksX3_putsNumber_0 21 rfl rfl)
theorem dX3_putsNumber_24 : decode cX3_putsNumber 24 = .ok (.aload_n 0, 1) := dk_42 (dk_at dksX3_putsNumber_1 0 rfl rfl)
theorem dX3_putsNumber_25 : decode cX3_putsNumber 25 = .ok (.bipush 48, 2) := dk_16 48 (dk_at dksX3_putsNumber_1 1 rfl rfl)
theorem dX3_putsNumber_27 : decode cX3_putsNumber 27 = .ok (.iload_n 1, 1) := dk_27 (dk_at dksX3_putsNumber_1 3 rfl rfl)
theorem dX3_putsNumber_28 : decode cX3_putsNumber 28 = .ok (.iload_n 3, 1) := dk_29 (dk_at dksX3_putsNumber_1 4 rfl rfl)
theorem dX3_putsNumber_29 : decode cX3_putsNumber 29 = .ok (.idiv, 1) := dk_108 (dk_at dksX3_putsNumber_1 5 rfl rfl)
theorem dX3_putsNumber_30 : decode cX3_putsNumber 30 = .ok (.bipush 10, 2) := dk_16 10 (dk_at dksX3_putsNumber_1 6 rfl rfl)
theorem dX3_putsNumber_32 : decode cX3_putsNumber 32 = .ok (.irem, 1) := dk_112 (dk_at dksX3_putsNumber_1 8 rfl rfl)
theorem dX3_putsNumber_33 : decode cX3_putsNumber 33 = .ok (.iadd, 1) := dk_96 (dk_at dksX3_putsNumber_1 9 rfl rfl)
theorem dX3_putsNumber_34 : decode cX3_putsNumber 34 = .ok (.invokevirtual 225, 3) := dk_182 0 225 (dk_at dksX3_putsNumber_1 10 rfl rfl)
theorem dX3_putsNumber_37 : decode cX3_putsNumber 37 = .ok (.iload_n 3, 1) := dk_29 (dk_at dksX3_putsNumber_1 13 rfl rfl)
theorem dX3_putsNumber_38 : decode cX3_putsNumber 38 = .ok (.bipush 10, 2) := dk_16 10 (dk_at dksX3_putsNumber_1 14 rfl rfl)
theorem dX3_putsNumber_40 : decode cX3_putsNumber 40 = .ok (.idiv, 1) := dk_108 (dk_at dksX3_putsNumber_1 16 rfl rfl)
theorem dX3_putsNumber_41 : decode cX3_putsNumber 41 = .ok (.istore_n 3, 1) := dk_62 (dk_at dksX3_putsNumber_1 17 rfl rfl)
theorem dX3_putsNumber_42 : decode cX3_putsNumber 42 = .ok (.goto (-22), 3) := dk_167 255 234 (dk_at dksX3_putsNumber_1 18 rfl rfl)
theorem dX3_putsNumber_45 : decode cX3_putsNumber 45 = .ok (.return_, 1) := dk_177 (dk_at dksX3_putsNumber_1 21 rfl rfl)
abbrev cX3_puts : ByteArray := prog_20_method_64_code
def yX3_puts : MethodName := ⟨RX3, "puts", "(I)V"⟩
def dkwX3_puts_0 : List UInt8 := [42, 180, 0, 28, 42, 180, 0, 222, 27, 79, 42, 89, 180, 0, 222, 4, 96, 181, 0, 222, 177]
abbrev dktX3_puts_0 : List UInt8 := dkwX3_puts_0 ++ []
theorem dksX3_puts_0 : cX3_puts.data.toList.drop 0 = dktX3_puts_0 := by decide +kernel
theorem dX3_puts_0 : decode cX3_puts 0 = .ok (.aload_n 0, 1) := dk_42 (dk_at dksX3_puts_0 0 rfl rfl)
theorem dX3_puts_1 : decode cX3_puts 1 = .ok (.getfield 28, 3) := dk_180 0 28 (dk_at dksX3_puts_0 1 rfl rfl)
theorem dX3_puts_4 : decode cX3_puts 4 = .ok (.aload_n 0, 1) := dk_42 (dk_at dksX3_puts_0 4 rfl rfl)
theorem dX3_puts_5 : decode cX3_puts 5 = .ok (.getfield 222, 3) := dk_180 0 222 (dk_at dksX3_puts_0 5 rfl rfl)
theorem dX3_puts_8 : decode cX3_puts 8 = .ok (.iload_n 1, 1) := dk_27 (dk_at dksX3_puts_0 8 rfl rfl)
theorem dX3_puts_9 : decode cX3_puts 9 = .ok (.iastore, 1) := dk_79 (dk_at dksX3_puts_0 9 rfl rfl)
theorem dX3_puts_10 : decode cX3_puts 10 = .ok (.aload_n 0, 1) := dk_42 (dk_at dksX3_puts_0 10 rfl rfl)
theorem dX3_puts_11 : decode cX3_puts 11 = .ok (.dup, 1) := dk_89 (dk_at dksX3_puts_0 11 rfl rfl)
theorem dX3_puts_12 : decode cX3_puts 12 = .ok (.getfield 222, 3) := dk_180 0 222 (dk_at dksX3_puts_0 12 rfl rfl)
theorem dX3_puts_15 : decode cX3_puts 15 = .ok (.iconst 1, 1) := dk_4 (dk_at dksX3_puts_0 15 rfl rfl)
theorem dX3_puts_16 : decode cX3_puts 16 = .ok (.iadd, 1) := dk_96 (dk_at dksX3_puts_0 16 rfl rfl)
theorem dX3_puts_17 : decode cX3_puts 17 = .ok (.putfield 222, 3) := dk_181 0 222 (dk_at dksX3_puts_0 17 rfl rfl)
theorem dX3_puts_20 : decode cX3_puts 20 = .ok (.return_, 1) := dk_177 (dk_at dksX3_puts_0 20 rfl rfl)
abbrev cX3_putsWord : ByteArray := prog_20_method_66_code
def yX3_putsWord : MethodName := ⟨RX3, "putsWord", "(Ljava/lang/String;)V"⟩
def dkwX3_putsWord_1 : List UInt8 := [167, 255, 236, 177]
abbrev dktX3_putsWord_1 : List UInt8 := dkwX3_putsWord_1 ++ []
def dkwX3_putsWord_0 : List UInt8 := [3, 61, 28, 43, 182, 0, 168, 162, 0, 18, 42, 43, 28, 182, 0, 172, 182, 0, 225, 132, 2, 1]
abbrev dktX3_putsWord_0 : List UInt8 := dkwX3_putsWord_0 ++ dktX3_putsWord_1
theorem dksX3_putsWord_0 : cX3_putsWord.data.toList.drop 0 = dktX3_putsWord_0 := by decide +kernel
theorem dksX3_putsWord_1 : cX3_putsWord.data.toList.drop 22 = dktX3_putsWord_1 := dk_seg dksX3_putsWord_0 22 rfl rfl
theorem dX3_putsWord_0 : decode cX3_putsWord 0 = .ok (.iconst 0, 1) := dk_3 (dk_at dksX3_putsWord_0 0 rfl rfl)
theorem dX3_putsWord_1 : decode cX3_putsWord 1 = .ok (.istore_n 2, 1) := dk_61 (dk_at dksX3_putsWord_0 1 rfl rfl)
theorem dX3_putsWord_2 : decode cX3_putsWord 2 = .ok (.iload_n 2, 1) := dk_28 (dk_at dksX3_putsWord_0 2 rfl rfl)
theorem dX3_putsWord_3 : decode cX3_putsWord 3 = .ok (.aload_n 1, 1) := dk_43 (dk_at dksX3_putsWord_0 3 rfl rfl)
theorem dX3_putsWord_4 : decode cX3_putsWord 4 = .ok (.invokevirtual 168, 3) := dk_182 0 168 (dk_at dksX3_putsWord_0 4 rfl rfl)
theorem dX3_putsWord_7 : decode cX3_putsWord 7 = .ok (.if_icmp .ge 18, 3) := dk_162 0 18 (dk_at dksX3_putsWord_0 7 rfl rfl)
theorem dX3_putsWord_10 : decode cX3_putsWord 10 = .ok (.aload_n 0, 1) := dk_42 (dk_at dksX3_putsWord_0 10 rfl rfl)
theorem dX3_putsWord_11 : decode cX3_putsWord 11 = .ok (.aload_n 1, 1) := dk_43 (dk_at dksX3_putsWord_0 11 rfl rfl)
theorem dX3_putsWord_12 : decode cX3_putsWord 12 = .ok (.iload_n 2, 1) := dk_28 (dk_at dksX3_putsWord_0 12 rfl rfl)
theorem dX3_putsWord_13 : decode cX3_putsWord 13 = .ok (.invokevirtual 172, 3) := dk_182 0 172 (dk_at dksX3_putsWord_0 13 rfl rfl)
theorem dX3_putsWord_16 : decode cX3_putsWord 16 = .ok (.invokevirtual 225, 3) := dk_182 0 225 (dk_at dksX3_putsWord_0 16 rfl rfl)
theorem dX3_putsWord_19 : decode cX3_putsWord 19 = .ok (.iinc 2 1, 3) := dk_132 2 1 (dk_at dksX3_putsWord_0 19 rfl rfl)
theorem dX3_putsWord_22 : decode cX3_putsWord 22 = .ok (.goto (-20), 3) := dk_167 255 236 (dk_at dksX3_putsWord_1 0 rfl rfl)
theorem dX3_putsWord_25 : decode cX3_putsWord 25 = .ok (.return_, 1) := dk_177 (dk_at dksX3_putsWord_1 3 rfl rfl)
abbrev cX3_written : ByteArray := prog_20_method_68_code
def yX3_written : MethodName := ⟨RX3, "written", "(I)C"⟩
def dkwX3_written_1 : List UInt8 := [180, 0, 41, 158, 0, 7, 3, 167, 0, 10, 42, 180, 0, 28, 27, 46, 146, 172]
abbrev dktX3_written_1 : List UInt8 := dkwX3_written_1 ++ []
def dkwX3_written_0 : List UInt8 := [42, 27, 3, 42, 180, 0, 222, 4, 100, 184, 0, 70, 153, 0, 7, 3, 167, 0, 4, 4, 181, 0, 41, 42]
abbrev dktX3_written_0 : List UInt8 := dkwX3_written_0 ++ dktX3_written_1
theorem dksX3_written_0 : cX3_written.data.toList.drop 0 = dktX3_written_0 := by decide +kernel
theorem dksX3_written_1 : cX3_written.data.toList.drop 24 = dktX3_written_1 := dk_seg dksX3_written_0 24 rfl rfl
theorem dX3_written_0 : decode cX3_written 0 = .ok (.aload_n 0, 1) := dk_42 (dk_at dksX3_written_0 0 rfl rfl)
theorem dX3_written_1 : decode cX3_written 1 = .ok (.iload_n 1, 1) := dk_27 (dk_at dksX3_written_0 1 rfl rfl)
theorem dX3_written_2 : decode cX3_written 2 = .ok (.iconst 0, 1) := dk_3 (dk_at dksX3_written_0 2 rfl rfl)
theorem dX3_written_3 : decode cX3_written 3 = .ok (.aload_n 0, 1) := dk_42 (dk_at dksX3_written_0 3 rfl rfl)
theorem dX3_written_4 : decode cX3_written 4 = .ok (.getfield 222, 3) := dk_180 0 222 (dk_at dksX3_written_0 4 rfl rfl)
theorem dX3_written_7 : decode cX3_written 7 = .ok (.iconst 1, 1) := dk_4 (dk_at dksX3_written_0 7 rfl rfl)
theorem dX3_written_8 : decode cX3_written 8 = .ok (.isub, 1) := dk_100 (dk_at dksX3_written_0 8 rfl rfl)
theorem dX3_written_9 : decode cX3_written 9 = .ok (.invokestatic 70, 3) := dk_184 0 70 (dk_at dksX3_written_0 9 rfl rfl)
theorem dX3_written_12 : decode cX3_written 12 = .ok (.ifCond .eq 7, 3) := dk_153 0 7 (dk_at dksX3_written_0 12 rfl rfl)
theorem dX3_written_15 : decode cX3_written 15 = .ok (.iconst 0, 1) := dk_3 (dk_at dksX3_written_0 15 rfl rfl)
theorem dX3_written_16 : decode cX3_written 16 = .ok (.goto 4, 3) := dk_167 0 4 (dk_at dksX3_written_0 16 rfl rfl)
theorem dX3_written_19 : decode cX3_written 19 = .ok (.iconst 1, 1) := dk_4 (dk_at dksX3_written_0 19 rfl rfl)
theorem dX3_written_20 : decode cX3_written 20 = .ok (.putfield 41, 3) := dk_181 0 41 (dk_at dksX3_written_0 20 rfl rfl)
theorem dX3_written_23 : decode cX3_written 23 = .ok (.aload_n 0, 1) := dk_42 (dk_at dksX3_written_0 23 rfl rfl)
theorem dX3_written_24 : decode cX3_written 24 = .ok (.getfield 41, 3) := dk_180 0 41 (dk_at dksX3_written_1 0 rfl rfl)
theorem dX3_written_27 : decode cX3_written 27 = .ok (.ifCond .le 7, 3) := dk_158 0 7 (dk_at dksX3_written_1 3 rfl rfl)
theorem dX3_written_30 : decode cX3_written 30 = .ok (.iconst 0, 1) := dk_3 (dk_at dksX3_written_1 6 rfl rfl)
theorem dX3_written_31 : decode cX3_written 31 = .ok (.goto 10, 3) := dk_167 0 10 (dk_at dksX3_written_1 7 rfl rfl)
theorem dX3_written_34 : decode cX3_written 34 = .ok (.aload_n 0, 1) := dk_42 (dk_at dksX3_written_1 10 rfl rfl)
theorem dX3_written_35 : decode cX3_written 35 = .ok (.getfield 28, 3) := dk_180 0 28 (dk_at dksX3_written_1 11 rfl rfl)
theorem dX3_written_38 : decode cX3_written 38 = .ok (.iload_n 1, 1) := dk_27 (dk_at dksX3_written_1 14 rfl rfl)
theorem dX3_written_39 : decode cX3_written 39 = .ok (.iaload, 1) := dk_46 (dk_at dksX3_written_1 15 rfl rfl)
theorem dX3_written_40 : decode cX3_written 40 = .ok (.i2c, 1) := dk_146 (dk_at dksX3_written_1 16 rfl rfl)
theorem dX3_written_41 : decode cX3_written 41 = .ok (.ireturn, 1) := dk_172 (dk_at dksX3_written_1 17 rfl rfl)
abbrev cX3_account : ByteArray := prog_20_method_71_code
def yX3_account : MethodName := ⟨RX3, "account", "(I)I"⟩
def dkwX3_account_7 : List UInt8 := [180, 0, 152, 172, 42, 180, 0, 44, 172, 42, 4, 182, 0, 67, 172]
abbrev dktX3_account_7 : List UInt8 := dkwX3_account_7 ++ []
def dkwX3_account_6 : List UInt8 := [180, 0, 7, 5, 46, 182, 0, 242, 172, 42, 16, 75, 42, 180, 0, 7, 4, 46, 182, 0, 242, 172, 42]
abbrev dktX3_account_6 : List UInt8 := dkwX3_account_6 ++ dktX3_account_7
def dkwX3_account_5 : List UInt8 := [16, 35, 42, 180, 0, 7, 4, 46, 182, 0, 242, 172, 42, 180, 0, 7, 7, 46, 172, 42, 16, 109, 42]
abbrev dktX3_account_5 : List UInt8 := dkwX3_account_5 ++ dktX3_account_6
def dkwX3_account_4 : List UInt8 := [180, 0, 7, 4, 46, 182, 0, 242, 172, 42, 16, 25, 42, 180, 0, 7, 4, 46, 182, 0, 242, 172, 42]
abbrev dktX3_account_4 : List UInt8 := dkwX3_account_4 ++ dktX3_account_5
def dkwX3_account_3 : List UInt8 := [46, 172, 42, 2, 182, 0, 128, 172, 42, 182, 0, 239, 172, 42, 180, 0, 7, 6, 46, 172, 42, 16, 85, 42]
abbrev dktX3_account_3 : List UInt8 := dkwX3_account_3 ++ dktX3_account_4
def dkwX3_account_2 : List UInt8 := [42, 180, 0, 7, 3, 46, 172, 42, 182, 0, 74, 172, 42, 180, 0, 7, 4, 46, 172, 42, 180, 0, 7, 5]
abbrev dktX3_account_2 : List UInt8 := dkwX3_account_2 ++ dktX3_account_3
def dkwX3_account_1 : List UInt8 := [170, 0, 0, 0, 0, 200, 0, 0, 0, 0, 0, 0, 0, 14, 0, 0, 0, 74, 0, 0, 0, 81, 0, 0, 0, 86, 0, 0, 0, 93, 0, 0, 0, 100, 0, 0, 0, 106, 0, 0, 0, 111, 0, 0, 0, 118, 0, 0, 0, 131, 0, 0, 0, 144, 0, 0, 0, 157, 0, 0, 0, 164, 0, 0, 0, 177, 0, 0, 0, 190, 0, 0, 0, 195]
abbrev dktX3_account_1 : List UInt8 := dkwX3_account_1 ++ dktX3_account_2
def dkwX3_account_0 : List UInt8 := [42, 3, 181, 0, 41, 27]
abbrev dktX3_account_0 : List UInt8 := dkwX3_account_0 ++ dktX3_account_1
theorem dksX3_account_0 : cX3_account.data.toList.drop 0 = dktX3_account_0 := by decide +kernel
theorem dksX3_account_1 : cX3_account.data.toList.drop 6 = dktX3_account_1 := dk_seg dksX3_account_0 6 rfl rfl
theorem dksX3_account_2 : cX3_account.data.toList.drop 80 = dktX3_account_2 := dk_seg dksX3_account_1 74 rfl rfl
theorem dksX3_account_3 : cX3_account.data.toList.drop 104 = dktX3_account_3 := dk_seg dksX3_account_2 24 rfl rfl
theorem dksX3_account_4 : cX3_account.data.toList.drop 128 = dktX3_account_4 := dk_seg dksX3_account_3 24 rfl rfl
theorem dksX3_account_5 : cX3_account.data.toList.drop 151 = dktX3_account_5 := dk_seg dksX3_account_4 23 rfl rfl
theorem dksX3_account_6 : cX3_account.data.toList.drop 174 = dktX3_account_6 := dk_seg dksX3_account_5 23 rfl rfl
theorem dksX3_account_7 : cX3_account.data.toList.drop 197 = dktX3_account_7 := dk_seg dksX3_account_6 23 rfl rfl
theorem dX3_account_0 : decode cX3_account 0 = .ok (.aload_n 0, 1) := dk_42 (dk_at dksX3_account_0 0 rfl rfl)
theorem dX3_account_1 : decode cX3_account 1 = .ok (.iconst 0, 1) := dk_3 (dk_at dksX3_account_0 1 rfl rfl)
theorem dX3_account_2 : decode cX3_account 2 = .ok (.putfield 41, 3) := dk_181 0 41 (dk_at dksX3_account_0 2 rfl rfl)
theorem dX3_account_5 : decode cX3_account 5 = .ok (.iload_n 1, 1) := dk_27 (dk_at dksX3_account_0 5 rfl rfl)
theorem dX3_account_6 : decode cX3_account 6 = .ok (.tableswitch 200 0 14 #[74, 81, 86, 93, 100, 106, 111, 118, 131, 144, 157, 164, 177, 190, 195], 74) := by decide +kernel
theorem dX3_account_80 : decode cX3_account 80 = .ok (.aload_n 0, 1) := dk_42 (dk_at dksX3_account_2 0 rfl rfl)
theorem dX3_account_81 : decode cX3_account 81 = .ok (.getfield 7, 3) := dk_180 0 7 (dk_at dksX3_account_2 1 rfl rfl)
theorem dX3_account_84 : decode cX3_account 84 = .ok (.iconst 0, 1) := dk_3 (dk_at dksX3_account_2 4 rfl rfl)
theorem dX3_account_85 : decode cX3_account 85 = .ok (.iaload, 1) := dk_46 (dk_at dksX3_account_2 5 rfl rfl)
theorem dX3_account_86 : decode cX3_account 86 = .ok (.ireturn, 1) := dk_172 (dk_at dksX3_account_2 6 rfl rfl)
theorem dX3_account_87 : decode cX3_account 87 = .ok (.aload_n 0, 1) := dk_42 (dk_at dksX3_account_2 7 rfl rfl)
theorem dX3_account_88 : decode cX3_account 88 = .ok (.invokevirtual 74, 3) := dk_182 0 74 (dk_at dksX3_account_2 8 rfl rfl)
theorem dX3_account_91 : decode cX3_account 91 = .ok (.ireturn, 1) := dk_172 (dk_at dksX3_account_2 11 rfl rfl)
theorem dX3_account_92 : decode cX3_account 92 = .ok (.aload_n 0, 1) := dk_42 (dk_at dksX3_account_2 12 rfl rfl)
theorem dX3_account_93 : decode cX3_account 93 = .ok (.getfield 7, 3) := dk_180 0 7 (dk_at dksX3_account_2 13 rfl rfl)
theorem dX3_account_96 : decode cX3_account 96 = .ok (.iconst 1, 1) := dk_4 (dk_at dksX3_account_2 16 rfl rfl)
theorem dX3_account_97 : decode cX3_account 97 = .ok (.iaload, 1) := dk_46 (dk_at dksX3_account_2 17 rfl rfl)
theorem dX3_account_98 : decode cX3_account 98 = .ok (.ireturn, 1) := dk_172 (dk_at dksX3_account_2 18 rfl rfl)
theorem dX3_account_99 : decode cX3_account 99 = .ok (.aload_n 0, 1) := dk_42 (dk_at dksX3_account_2 19 rfl rfl)
theorem dX3_account_100 : decode cX3_account 100 = .ok (.getfield 7, 3) := dk_180 0 7 (dk_at dksX3_account_2 20 rfl rfl)
theorem dX3_account_103 : decode cX3_account 103 = .ok (.iconst 2, 1) := dk_5 (dk_at dksX3_account_2 23 rfl rfl)
theorem dX3_account_104 : decode cX3_account 104 = .ok (.iaload, 1) := dk_46 (dk_at dksX3_account_3 0 rfl rfl)
theorem dX3_account_105 : decode cX3_account 105 = .ok (.ireturn, 1) := dk_172 (dk_at dksX3_account_3 1 rfl rfl)
theorem dX3_account_106 : decode cX3_account 106 = .ok (.aload_n 0, 1) := dk_42 (dk_at dksX3_account_3 2 rfl rfl)
theorem dX3_account_107 : decode cX3_account 107 = .ok (.iconst (-1), 1) := dk_2 (dk_at dksX3_account_3 3 rfl rfl)
theorem dX3_account_108 : decode cX3_account 108 = .ok (.invokevirtual 128, 3) := dk_182 0 128 (dk_at dksX3_account_3 4 rfl rfl)
theorem dX3_account_111 : decode cX3_account 111 = .ok (.ireturn, 1) := dk_172 (dk_at dksX3_account_3 7 rfl rfl)
theorem dX3_account_112 : decode cX3_account 112 = .ok (.aload_n 0, 1) := dk_42 (dk_at dksX3_account_3 8 rfl rfl)
theorem dX3_account_113 : decode cX3_account 113 = .ok (.invokevirtual 239, 3) := dk_182 0 239 (dk_at dksX3_account_3 9 rfl rfl)
theorem dX3_account_116 : decode cX3_account 116 = .ok (.ireturn, 1) := dk_172 (dk_at dksX3_account_3 12 rfl rfl)
theorem dX3_account_117 : decode cX3_account 117 = .ok (.aload_n 0, 1) := dk_42 (dk_at dksX3_account_3 13 rfl rfl)
theorem dX3_account_118 : decode cX3_account 118 = .ok (.getfield 7, 3) := dk_180 0 7 (dk_at dksX3_account_3 14 rfl rfl)
theorem dX3_account_121 : decode cX3_account 121 = .ok (.iconst 3, 1) := dk_6 (dk_at dksX3_account_3 17 rfl rfl)
theorem dX3_account_122 : decode cX3_account 122 = .ok (.iaload, 1) := dk_46 (dk_at dksX3_account_3 18 rfl rfl)
theorem dX3_account_123 : decode cX3_account 123 = .ok (.ireturn, 1) := dk_172 (dk_at dksX3_account_3 19 rfl rfl)
theorem dX3_account_124 : decode cX3_account 124 = .ok (.aload_n 0, 1) := dk_42 (dk_at dksX3_account_3 20 rfl rfl)
theorem dX3_account_125 : decode cX3_account 125 = .ok (.bipush 85, 2) := dk_16 85 (dk_at dksX3_account_3 21 rfl rfl)
theorem dX3_account_127 : decode cX3_account 127 = .ok (.aload_n 0, 1) := dk_42 (dk_at dksX3_account_3 23 rfl rfl)
theorem dX3_account_128 : decode cX3_account 128 = .ok (.getfield 7, 3) := dk_180 0 7 (dk_at dksX3_account_4 0 rfl rfl)
theorem dX3_account_131 : decode cX3_account 131 = .ok (.iconst 1, 1) := dk_4 (dk_at dksX3_account_4 3 rfl rfl)
theorem dX3_account_132 : decode cX3_account 132 = .ok (.iaload, 1) := dk_46 (dk_at dksX3_account_4 4 rfl rfl)
theorem dX3_account_133 : decode cX3_account 133 = .ok (.invokevirtual 242, 3) := dk_182 0 242 (dk_at dksX3_account_4 5 rfl rfl)
theorem dX3_account_136 : decode cX3_account 136 = .ok (.ireturn, 1) := dk_172 (dk_at dksX3_account_4 8 rfl rfl)
theorem dX3_account_137 : decode cX3_account 137 = .ok (.aload_n 0, 1) := dk_42 (dk_at dksX3_account_4 9 rfl rfl)
theorem dX3_account_138 : decode cX3_account 138 = .ok (.bipush 25, 2) := dk_16 25 (dk_at dksX3_account_4 10 rfl rfl)
theorem dX3_account_140 : decode cX3_account 140 = .ok (.aload_n 0, 1) := dk_42 (dk_at dksX3_account_4 12 rfl rfl)
theorem dX3_account_141 : decode cX3_account 141 = .ok (.getfield 7, 3) := dk_180 0 7 (dk_at dksX3_account_4 13 rfl rfl)
theorem dX3_account_144 : decode cX3_account 144 = .ok (.iconst 1, 1) := dk_4 (dk_at dksX3_account_4 16 rfl rfl)
theorem dX3_account_145 : decode cX3_account 145 = .ok (.iaload, 1) := dk_46 (dk_at dksX3_account_4 17 rfl rfl)
theorem dX3_account_146 : decode cX3_account 146 = .ok (.invokevirtual 242, 3) := dk_182 0 242 (dk_at dksX3_account_4 18 rfl rfl)
theorem dX3_account_149 : decode cX3_account 149 = .ok (.ireturn, 1) := dk_172 (dk_at dksX3_account_4 21 rfl rfl)
theorem dX3_account_150 : decode cX3_account 150 = .ok (.aload_n 0, 1) := dk_42 (dk_at dksX3_account_4 22 rfl rfl)
theorem dX3_account_151 : decode cX3_account 151 = .ok (.bipush 35, 2) := dk_16 35 (dk_at dksX3_account_5 0 rfl rfl)
theorem dX3_account_153 : decode cX3_account 153 = .ok (.aload_n 0, 1) := dk_42 (dk_at dksX3_account_5 2 rfl rfl)
theorem dX3_account_154 : decode cX3_account 154 = .ok (.getfield 7, 3) := dk_180 0 7 (dk_at dksX3_account_5 3 rfl rfl)
theorem dX3_account_157 : decode cX3_account 157 = .ok (.iconst 1, 1) := dk_4 (dk_at dksX3_account_5 6 rfl rfl)
theorem dX3_account_158 : decode cX3_account 158 = .ok (.iaload, 1) := dk_46 (dk_at dksX3_account_5 7 rfl rfl)
theorem dX3_account_159 : decode cX3_account 159 = .ok (.invokevirtual 242, 3) := dk_182 0 242 (dk_at dksX3_account_5 8 rfl rfl)
theorem dX3_account_162 : decode cX3_account 162 = .ok (.ireturn, 1) := dk_172 (dk_at dksX3_account_5 11 rfl rfl)
theorem dX3_account_163 : decode cX3_account 163 = .ok (.aload_n 0, 1) := dk_42 (dk_at dksX3_account_5 12 rfl rfl)
theorem dX3_account_164 : decode cX3_account 164 = .ok (.getfield 7, 3) := dk_180 0 7 (dk_at dksX3_account_5 13 rfl rfl)
theorem dX3_account_167 : decode cX3_account 167 = .ok (.iconst 4, 1) := dk_7 (dk_at dksX3_account_5 16 rfl rfl)
theorem dX3_account_168 : decode cX3_account 168 = .ok (.iaload, 1) := dk_46 (dk_at dksX3_account_5 17 rfl rfl)
theorem dX3_account_169 : decode cX3_account 169 = .ok (.ireturn, 1) := dk_172 (dk_at dksX3_account_5 18 rfl rfl)
theorem dX3_account_170 : decode cX3_account 170 = .ok (.aload_n 0, 1) := dk_42 (dk_at dksX3_account_5 19 rfl rfl)
theorem dX3_account_171 : decode cX3_account 171 = .ok (.bipush 109, 2) := dk_16 109 (dk_at dksX3_account_5 20 rfl rfl)
theorem dX3_account_173 : decode cX3_account 173 = .ok (.aload_n 0, 1) := dk_42 (dk_at dksX3_account_5 22 rfl rfl)
theorem dX3_account_174 : decode cX3_account 174 = .ok (.getfield 7, 3) := dk_180 0 7 (dk_at dksX3_account_6 0 rfl rfl)
theorem dX3_account_177 : decode cX3_account 177 = .ok (.iconst 2, 1) := dk_5 (dk_at dksX3_account_6 3 rfl rfl)
theorem dX3_account_178 : decode cX3_account 178 = .ok (.iaload, 1) := dk_46 (dk_at dksX3_account_6 4 rfl rfl)
theorem dX3_account_179 : decode cX3_account 179 = .ok (.invokevirtual 242, 3) := dk_182 0 242 (dk_at dksX3_account_6 5 rfl rfl)
theorem dX3_account_182 : decode cX3_account 182 = .ok (.ireturn, 1) := dk_172 (dk_at dksX3_account_6 8 rfl rfl)
theorem dX3_account_183 : decode cX3_account 183 = .ok (.aload_n 0, 1) := dk_42 (dk_at dksX3_account_6 9 rfl rfl)
theorem dX3_account_184 : decode cX3_account 184 = .ok (.bipush 75, 2) := dk_16 75 (dk_at dksX3_account_6 10 rfl rfl)
theorem dX3_account_186 : decode cX3_account 186 = .ok (.aload_n 0, 1) := dk_42 (dk_at dksX3_account_6 12 rfl rfl)
theorem dX3_account_187 : decode cX3_account 187 = .ok (.getfield 7, 3) := dk_180 0 7 (dk_at dksX3_account_6 13 rfl rfl)
theorem dX3_account_190 : decode cX3_account 190 = .ok (.iconst 1, 1) := dk_4 (dk_at dksX3_account_6 16 rfl rfl)
theorem dX3_account_191 : decode cX3_account 191 = .ok (.iaload, 1) := dk_46 (dk_at dksX3_account_6 17 rfl rfl)
theorem dX3_account_192 : decode cX3_account 192 = .ok (.invokevirtual 242, 3) := dk_182 0 242 (dk_at dksX3_account_6 18 rfl rfl)
theorem dX3_account_195 : decode cX3_account 195 = .ok (.ireturn, 1) := dk_172 (dk_at dksX3_account_6 21 rfl rfl)
theorem dX3_account_196 : decode cX3_account 196 = .ok (.aload_n 0, 1) := dk_42 (dk_at dksX3_account_6 22 rfl rfl)
theorem dX3_account_197 : decode cX3_account 197 = .ok (.getfield 152, 3) := dk_180 0 152 (dk_at dksX3_account_7 0 rfl rfl)
theorem dX3_account_200 : decode cX3_account 200 = .ok (.ireturn, 1) := dk_172 (dk_at dksX3_account_7 3 rfl rfl)
theorem dX3_account_201 : decode cX3_account 201 = .ok (.aload_n 0, 1) := dk_42 (dk_at dksX3_account_7 4 rfl rfl)
theorem dX3_account_202 : decode cX3_account 202 = .ok (.getfield 44, 3) := dk_180 0 44 (dk_at dksX3_account_7 5 rfl rfl)
theorem dX3_account_205 : decode cX3_account 205 = .ok (.ireturn, 1) := dk_172 (dk_at dksX3_account_7 8 rfl rfl)
theorem dX3_account_206 : decode cX3_account 206 = .ok (.aload_n 0, 1) := dk_42 (dk_at dksX3_account_7 9 rfl rfl)
theorem dX3_account_207 : decode cX3_account 207 = .ok (.iconst 1, 1) := dk_4 (dk_at dksX3_account_7 10 rfl rfl)
theorem dX3_account_208 : decode cX3_account 208 = .ok (.invokevirtual 67, 3) := dk_182 0 67 (dk_at dksX3_account_7 11 rfl rfl)
theorem dX3_account_211 : decode cX3_account 211 = .ok (.ireturn, 1) := dk_172 (dk_at dksX3_account_7 14 rfl rfl)
abbrev cX3_barred : ByteArray := prog_20_method_70_code
def yX3_barred : MethodName := ⟨RX3, "barred", "()I"⟩
def dkwX3_barred_1 : List UInt8 := [167, 0, 4, 3, 96, 60, 132, 2, 1, 167, 255, 227, 27, 172]
abbrev dktX3_barred_1 : List UInt8 := dkwX3_barred_1 ++ []
def dkwX3_barred_0 : List UInt8 := [3, 60, 3, 61, 28, 42, 180, 0, 7, 4, 46, 162, 0, 25, 27, 42, 28, 182, 0, 78, 153, 0, 7, 4]
abbrev dktX3_barred_0 : List UInt8 := dkwX3_barred_0 ++ dktX3_barred_1
theorem dksX3_barred_0 : cX3_barred.data.toList.drop 0 = dktX3_barred_0 := by decide +kernel
theorem dksX3_barred_1 : cX3_barred.data.toList.drop 24 = dktX3_barred_1 := dk_seg dksX3_barred_0 24 rfl rfl
theorem dX3_barred_0 : decode cX3_barred 0 = .ok (.iconst 0, 1) := dk_3 (dk_at dksX3_barred_0 0 rfl rfl)
theorem dX3_barred_1 : decode cX3_barred 1 = .ok (.istore_n 1, 1) := dk_60 (dk_at dksX3_barred_0 1 rfl rfl)
theorem dX3_barred_2 : decode cX3_barred 2 = .ok (.iconst 0, 1) := dk_3 (dk_at dksX3_barred_0 2 rfl rfl)
theorem dX3_barred_3 : decode cX3_barred 3 = .ok (.istore_n 2, 1) := dk_61 (dk_at dksX3_barred_0 3 rfl rfl)
theorem dX3_barred_4 : decode cX3_barred 4 = .ok (.iload_n 2, 1) := dk_28 (dk_at dksX3_barred_0 4 rfl rfl)
theorem dX3_barred_5 : decode cX3_barred 5 = .ok (.aload_n 0, 1) := dk_42 (dk_at dksX3_barred_0 5 rfl rfl)
theorem dX3_barred_6 : decode cX3_barred 6 = .ok (.getfield 7, 3) := dk_180 0 7 (dk_at dksX3_barred_0 6 rfl rfl)
theorem dX3_barred_9 : decode cX3_barred 9 = .ok (.iconst 1, 1) := dk_4 (dk_at dksX3_barred_0 9 rfl rfl)
theorem dX3_barred_10 : decode cX3_barred 10 = .ok (.iaload, 1) := dk_46 (dk_at dksX3_barred_0 10 rfl rfl)
theorem dX3_barred_11 : decode cX3_barred 11 = .ok (.if_icmp .ge 25, 3) := dk_162 0 25 (dk_at dksX3_barred_0 11 rfl rfl)
theorem dX3_barred_14 : decode cX3_barred 14 = .ok (.iload_n 1, 1) := dk_27 (dk_at dksX3_barred_0 14 rfl rfl)
theorem dX3_barred_15 : decode cX3_barred 15 = .ok (.aload_n 0, 1) := dk_42 (dk_at dksX3_barred_0 15 rfl rfl)
theorem dX3_barred_16 : decode cX3_barred 16 = .ok (.iload_n 2, 1) := dk_28 (dk_at dksX3_barred_0 16 rfl rfl)
theorem dX3_barred_17 : decode cX3_barred 17 = .ok (.invokevirtual 78, 3) := dk_182 0 78 (dk_at dksX3_barred_0 17 rfl rfl)
theorem dX3_barred_20 : decode cX3_barred 20 = .ok (.ifCond .eq 7, 3) := dk_153 0 7 (dk_at dksX3_barred_0 20 rfl rfl)
theorem dX3_barred_23 : decode cX3_barred 23 = .ok (.iconst 1, 1) := dk_4 (dk_at dksX3_barred_0 23 rfl rfl)
theorem dX3_barred_24 : decode cX3_barred 24 = .ok (.goto 4, 3) := dk_167 0 4 (dk_at dksX3_barred_1 0 rfl rfl)
theorem dX3_barred_27 : decode cX3_barred 27 = .ok (.iconst 0, 1) := dk_3 (dk_at dksX3_barred_1 3 rfl rfl)
theorem dX3_barred_28 : decode cX3_barred 28 = .ok (.iadd, 1) := dk_96 (dk_at dksX3_barred_1 4 rfl rfl)
theorem dX3_barred_29 : decode cX3_barred 29 = .ok (.istore_n 1, 1) := dk_60 (dk_at dksX3_barred_1 5 rfl rfl)
theorem dX3_barred_30 : decode cX3_barred 30 = .ok (.iinc 2 1, 3) := dk_132 2 1 (dk_at dksX3_barred_1 6 rfl rfl)
theorem dX3_barred_33 : decode cX3_barred 33 = .ok (.goto (-29), 3) := dk_167 255 227 (dk_at dksX3_barred_1 9 rfl rfl)
theorem dX3_barred_36 : decode cX3_barred 36 = .ok (.iload_n 1, 1) := dk_27 (dk_at dksX3_barred_1 12 rfl rfl)
theorem dX3_barred_37 : decode cX3_barred 37 = .ok (.ireturn, 1) := dk_172 (dk_at dksX3_barred_1 13 rfl rfl)
abbrev cX3_sum : ByteArray := prog_20_method_69_code
def yX3_sum : MethodName := ⟨RX3, "sum", "(II)I"⟩
def dkwX3_sum_1 : List UInt8 := [132, 4, 1, 167, 255, 235, 29, 172]
abbrev dktX3_sum_1 : List UInt8 := dkwX3_sum_1 ++ []
def dkwX3_sum_0 : List UInt8 := [3, 62, 3, 54, 4, 21, 4, 28, 162, 0, 21, 29, 42, 180, 0, 7, 27, 21, 4, 96, 46, 96, 62]
abbrev dktX3_sum_0 : List UInt8 := dkwX3_sum_0 ++ dktX3_sum_1
theorem dksX3_sum_0 : cX3_sum.data.toList.drop 0 = dktX3_sum_0 := by decide +kernel
theorem dksX3_sum_1 : cX3_sum.data.toList.drop 23 = dktX3_sum_1 := dk_seg dksX3_sum_0 23 rfl rfl
theorem dX3_sum_0 : decode cX3_sum 0 = .ok (.iconst 0, 1) := dk_3 (dk_at dksX3_sum_0 0 rfl rfl)
theorem dX3_sum_1 : decode cX3_sum 1 = .ok (.istore_n 3, 1) := dk_62 (dk_at dksX3_sum_0 1 rfl rfl)
theorem dX3_sum_2 : decode cX3_sum 2 = .ok (.iconst 0, 1) := dk_3 (dk_at dksX3_sum_0 2 rfl rfl)
theorem dX3_sum_3 : decode cX3_sum 3 = .ok (.istore 4, 2) := dk_54 4 (dk_at dksX3_sum_0 3 rfl rfl)
theorem dX3_sum_5 : decode cX3_sum 5 = .ok (.iload 4, 2) := dk_21 4 (dk_at dksX3_sum_0 5 rfl rfl)
theorem dX3_sum_7 : decode cX3_sum 7 = .ok (.iload_n 2, 1) := dk_28 (dk_at dksX3_sum_0 7 rfl rfl)
theorem dX3_sum_8 : decode cX3_sum 8 = .ok (.if_icmp .ge 21, 3) := dk_162 0 21 (dk_at dksX3_sum_0 8 rfl rfl)
theorem dX3_sum_11 : decode cX3_sum 11 = .ok (.iload_n 3, 1) := dk_29 (dk_at dksX3_sum_0 11 rfl rfl)
theorem dX3_sum_12 : decode cX3_sum 12 = .ok (.aload_n 0, 1) := dk_42 (dk_at dksX3_sum_0 12 rfl rfl)
theorem dX3_sum_13 : decode cX3_sum 13 = .ok (.getfield 7, 3) := dk_180 0 7 (dk_at dksX3_sum_0 13 rfl rfl)
theorem dX3_sum_16 : decode cX3_sum 16 = .ok (.iload_n 1, 1) := dk_27 (dk_at dksX3_sum_0 16 rfl rfl)
theorem dX3_sum_17 : decode cX3_sum 17 = .ok (.iload 4, 2) := dk_21 4 (dk_at dksX3_sum_0 17 rfl rfl)
theorem dX3_sum_19 : decode cX3_sum 19 = .ok (.iadd, 1) := dk_96 (dk_at dksX3_sum_0 19 rfl rfl)
theorem dX3_sum_20 : decode cX3_sum 20 = .ok (.iaload, 1) := dk_46 (dk_at dksX3_sum_0 20 rfl rfl)
theorem dX3_sum_21 : decode cX3_sum 21 = .ok (.iadd, 1) := dk_96 (dk_at dksX3_sum_0 21 rfl rfl)
theorem dX3_sum_22 : decode cX3_sum 22 = .ok (.istore_n 3, 1) := dk_62 (dk_at dksX3_sum_0 22 rfl rfl)
theorem dX3_sum_23 : decode cX3_sum 23 = .ok (.iinc 4 1, 3) := dk_132 4 1 (dk_at dksX3_sum_1 0 rfl rfl)
theorem dX3_sum_26 : decode cX3_sum 26 = .ok (.goto (-21), 3) := dk_167 255 235 (dk_at dksX3_sum_1 3 rfl rfl)
theorem dX3_sum_29 : decode cX3_sum 29 = .ok (.iload_n 3, 1) := dk_29 (dk_at dksX3_sum_1 6 rfl rfl)
theorem dX3_sum_30 : decode cX3_sum 30 = .ok (.ireturn, 1) := dk_172 (dk_at dksX3_sum_1 7 rfl rfl)
abbrev cX3_finesAgain : ByteArray := prog_20_method_72_code
def yX3_finesAgain : MethodName := ⟨RX3, "finesAgain", "()I"⟩
def dkwX3_finesAgain_0 : List UInt8 := [42, 3, 181, 0, 41, 42, 16, 10, 8, 182, 0, 242, 172]
abbrev dktX3_finesAgain_0 : List UInt8 := dkwX3_finesAgain_0 ++ []
theorem dksX3_finesAgain_0 : cX3_finesAgain.data.toList.drop 0 = dktX3_finesAgain_0 := by decide +kernel
theorem dX3_finesAgain_0 : decode cX3_finesAgain 0 = .ok (.aload_n 0, 1) := dk_42 (dk_at dksX3_finesAgain_0 0 rfl rfl)
theorem dX3_finesAgain_1 : decode cX3_finesAgain 1 = .ok (.iconst 0, 1) := dk_3 (dk_at dksX3_finesAgain_0 1 rfl rfl)
theorem dX3_finesAgain_2 : decode cX3_finesAgain 2 = .ok (.putfield 41, 3) := dk_181 0 41 (dk_at dksX3_finesAgain_0 2 rfl rfl)
theorem dX3_finesAgain_5 : decode cX3_finesAgain 5 = .ok (.aload_n 0, 1) := dk_42 (dk_at dksX3_finesAgain_0 5 rfl rfl)
theorem dX3_finesAgain_6 : decode cX3_finesAgain 6 = .ok (.bipush 10, 2) := dk_16 10 (dk_at dksX3_finesAgain_0 6 rfl rfl)
theorem dX3_finesAgain_8 : decode cX3_finesAgain 8 = .ok (.iconst 5, 1) := dk_8 (dk_at dksX3_finesAgain_0 8 rfl rfl)
theorem dX3_finesAgain_9 : decode cX3_finesAgain 9 = .ok (.invokevirtual 242, 3) := dk_182 0 242 (dk_at dksX3_finesAgain_0 9 rfl rfl)
theorem dX3_finesAgain_12 : decode cX3_finesAgain 12 = .ok (.ireturn, 1) := dk_172 (dk_at dksX3_finesAgain_0 12 rfl rfl)
abbrev cX3_meanError : ByteArray := prog_20_method_73_code
def yX3_meanError : MethodName := ⟨RX3, "meanError", "()D"⟩
def dkwX3_meanError_2 : List UInt8 := [4, 46, 135, 111, 175]
abbrev dktX3_meanError_2 : List UInt8 := dkwX3_meanError_2 ++ []
def dkwX3_meanError_1 : List UInt8 := [158, 0, 7, 14, 167, 0, 24, 42, 16, 45, 42, 180, 0, 7, 4, 46, 182, 0, 242, 135, 42, 180, 0, 7]
abbrev dktX3_meanError_1 : List UInt8 := dkwX3_meanError_1 ++ dktX3_meanError_2
def dkwX3_meanError_0 : List UInt8 := [42, 42, 180, 0, 7, 4, 46, 154, 0, 7, 4, 167, 0, 4, 3, 181, 0, 41, 42, 180, 0, 41]
abbrev dktX3_meanError_0 : List UInt8 := dkwX3_meanError_0 ++ dktX3_meanError_1
theorem dksX3_meanError_0 : cX3_meanError.data.toList.drop 0 = dktX3_meanError_0 := by decide +kernel
theorem dksX3_meanError_1 : cX3_meanError.data.toList.drop 22 = dktX3_meanError_1 := dk_seg dksX3_meanError_0 22 rfl rfl
theorem dksX3_meanError_2 : cX3_meanError.data.toList.drop 46 = dktX3_meanError_2 := dk_seg dksX3_meanError_1 24 rfl rfl
theorem dX3_meanError_0 : decode cX3_meanError 0 = .ok (.aload_n 0, 1) := dk_42 (dk_at dksX3_meanError_0 0 rfl rfl)
theorem dX3_meanError_1 : decode cX3_meanError 1 = .ok (.aload_n 0, 1) := dk_42 (dk_at dksX3_meanError_0 1 rfl rfl)
theorem dX3_meanError_2 : decode cX3_meanError 2 = .ok (.getfield 7, 3) := dk_180 0 7 (dk_at dksX3_meanError_0 2 rfl rfl)
theorem dX3_meanError_5 : decode cX3_meanError 5 = .ok (.iconst 1, 1) := dk_4 (dk_at dksX3_meanError_0 5 rfl rfl)
theorem dX3_meanError_6 : decode cX3_meanError 6 = .ok (.iaload, 1) := dk_46 (dk_at dksX3_meanError_0 6 rfl rfl)
theorem dX3_meanError_7 : decode cX3_meanError 7 = .ok (.ifCond .ne 7, 3) := dk_154 0 7 (dk_at dksX3_meanError_0 7 rfl rfl)
theorem dX3_meanError_10 : decode cX3_meanError 10 = .ok (.iconst 1, 1) := dk_4 (dk_at dksX3_meanError_0 10 rfl rfl)
theorem dX3_meanError_11 : decode cX3_meanError 11 = .ok (.goto 4, 3) := dk_167 0 4 (dk_at dksX3_meanError_0 11 rfl rfl)
theorem dX3_meanError_14 : decode cX3_meanError 14 = .ok (.iconst 0, 1) := dk_3 (dk_at dksX3_meanError_0 14 rfl rfl)
theorem dX3_meanError_15 : decode cX3_meanError 15 = .ok (.putfield 41, 3) := dk_181 0 41 (dk_at dksX3_meanError_0 15 rfl rfl)
theorem dX3_meanError_18 : decode cX3_meanError 18 = .ok (.aload_n 0, 1) := dk_42 (dk_at dksX3_meanError_0 18 rfl rfl)
theorem dX3_meanError_19 : decode cX3_meanError 19 = .ok (.getfield 41, 3) := dk_180 0 41 (dk_at dksX3_meanError_0 19 rfl rfl)
theorem dX3_meanError_22 : decode cX3_meanError 22 = .ok (.ifCond .le 7, 3) := dk_158 0 7 (dk_at dksX3_meanError_1 0 rfl rfl)
theorem dX3_meanError_25 : decode cX3_meanError 25 = .ok (.dconst 0, 1) := dk_14 (dk_at dksX3_meanError_1 3 rfl rfl)
theorem dX3_meanError_26 : decode cX3_meanError 26 = .ok (.goto 24, 3) := dk_167 0 24 (dk_at dksX3_meanError_1 4 rfl rfl)
theorem dX3_meanError_29 : decode cX3_meanError 29 = .ok (.aload_n 0, 1) := dk_42 (dk_at dksX3_meanError_1 7 rfl rfl)
theorem dX3_meanError_30 : decode cX3_meanError 30 = .ok (.bipush 45, 2) := dk_16 45 (dk_at dksX3_meanError_1 8 rfl rfl)
theorem dX3_meanError_32 : decode cX3_meanError 32 = .ok (.aload_n 0, 1) := dk_42 (dk_at dksX3_meanError_1 10 rfl rfl)
theorem dX3_meanError_33 : decode cX3_meanError 33 = .ok (.getfield 7, 3) := dk_180 0 7 (dk_at dksX3_meanError_1 11 rfl rfl)
theorem dX3_meanError_36 : decode cX3_meanError 36 = .ok (.iconst 1, 1) := dk_4 (dk_at dksX3_meanError_1 14 rfl rfl)
theorem dX3_meanError_37 : decode cX3_meanError 37 = .ok (.iaload, 1) := dk_46 (dk_at dksX3_meanError_1 15 rfl rfl)
theorem dX3_meanError_38 : decode cX3_meanError 38 = .ok (.invokevirtual 242, 3) := dk_182 0 242 (dk_at dksX3_meanError_1 16 rfl rfl)
theorem dX3_meanError_41 : decode cX3_meanError 41 = .ok (.i2d, 1) := dk_135 (dk_at dksX3_meanError_1 19 rfl rfl)
theorem dX3_meanError_42 : decode cX3_meanError 42 = .ok (.aload_n 0, 1) := dk_42 (dk_at dksX3_meanError_1 20 rfl rfl)
theorem dX3_meanError_43 : decode cX3_meanError 43 = .ok (.getfield 7, 3) := dk_180 0 7 (dk_at dksX3_meanError_1 21 rfl rfl)
theorem dX3_meanError_46 : decode cX3_meanError 46 = .ok (.iconst 1, 1) := dk_4 (dk_at dksX3_meanError_2 0 rfl rfl)
theorem dX3_meanError_47 : decode cX3_meanError 47 = .ok (.iaload, 1) := dk_46 (dk_at dksX3_meanError_2 1 rfl rfl)
theorem dX3_meanError_48 : decode cX3_meanError 48 = .ok (.i2d, 1) := dk_135 (dk_at dksX3_meanError_2 2 rfl rfl)
theorem dX3_meanError_49 : decode cX3_meanError 49 = .ok (.ddiv, 1) := dk_111 (dk_at dksX3_meanError_2 3 rfl rfl)
theorem dX3_meanError_50 : decode cX3_meanError 50 = .ok (.dreturn, 1) := dk_175 (dk_at dksX3_meanError_2 4 rfl rfl)
abbrev cX3_sealedShare : ByteArray := prog_20_method_74_code
def yX3_sealedShare : MethodName := ⟨RX3, "sealedShare", "()F"⟩
def dkwX3_sealedShare_1 : List UInt8 := [158, 0, 7, 11, 167, 0, 17, 42, 2, 182, 0, 128, 134, 42, 180, 0, 7, 4, 46, 134, 110, 174]
abbrev dktX3_sealedShare_1 : List UInt8 := dkwX3_sealedShare_1 ++ []
def dkwX3_sealedShare_0 : List UInt8 := [42, 42, 180, 0, 7, 4, 46, 154, 0, 7, 4, 167, 0, 4, 3, 181, 0, 41, 42, 180, 0, 41]
abbrev dktX3_sealedShare_0 : List UInt8 := dkwX3_sealedShare_0 ++ dktX3_sealedShare_1
theorem dksX3_sealedShare_0 : cX3_sealedShare.data.toList.drop 0 = dktX3_sealedShare_0 := by decide +kernel
theorem dksX3_sealedShare_1 : cX3_sealedShare.data.toList.drop 22 = dktX3_sealedShare_1 := dk_seg dksX3_sealedShare_0 22 rfl rfl
theorem dX3_sealedShare_0 : decode cX3_sealedShare 0 = .ok (.aload_n 0, 1) := dk_42 (dk_at dksX3_sealedShare_0 0 rfl rfl)
theorem dX3_sealedShare_1 : decode cX3_sealedShare 1 = .ok (.aload_n 0, 1) := dk_42 (dk_at dksX3_sealedShare_0 1 rfl rfl)
theorem dX3_sealedShare_2 : decode cX3_sealedShare 2 = .ok (.getfield 7, 3) := dk_180 0 7 (dk_at dksX3_sealedShare_0 2 rfl rfl)
theorem dX3_sealedShare_5 : decode cX3_sealedShare 5 = .ok (.iconst 1, 1) := dk_4 (dk_at dksX3_sealedShare_0 5 rfl rfl)
theorem dX3_sealedShare_6 : decode cX3_sealedShare 6 = .ok (.iaload, 1) := dk_46 (dk_at dksX3_sealedShare_0 6 rfl rfl)
theorem dX3_sealedShare_7 : decode cX3_sealedShare 7 = .ok (.ifCond .ne 7, 3) := dk_154 0 7 (dk_at dksX3_sealedShare_0 7 rfl rfl)
theorem dX3_sealedShare_10 : decode cX3_sealedShare 10 = .ok (.iconst 1, 1) := dk_4 (dk_at dksX3_sealedShare_0 10 rfl rfl)
theorem dX3_sealedShare_11 : decode cX3_sealedShare 11 = .ok (.goto 4, 3) := dk_167 0 4 (dk_at dksX3_sealedShare_0 11 rfl rfl)
theorem dX3_sealedShare_14 : decode cX3_sealedShare 14 = .ok (.iconst 0, 1) := dk_3 (dk_at dksX3_sealedShare_0 14 rfl rfl)
theorem dX3_sealedShare_15 : decode cX3_sealedShare 15 = .ok (.putfield 41, 3) := dk_181 0 41 (dk_at dksX3_sealedShare_0 15 rfl rfl)
theorem dX3_sealedShare_18 : decode cX3_sealedShare 18 = .ok (.aload_n 0, 1) := dk_42 (dk_at dksX3_sealedShare_0 18 rfl rfl)
theorem dX3_sealedShare_19 : decode cX3_sealedShare 19 = .ok (.getfield 41, 3) := dk_180 0 41 (dk_at dksX3_sealedShare_0 19 rfl rfl)
theorem dX3_sealedShare_22 : decode cX3_sealedShare 22 = .ok (.ifCond .le 7, 3) := dk_158 0 7 (dk_at dksX3_sealedShare_1 0 rfl rfl)
theorem dX3_sealedShare_25 : decode cX3_sealedShare 25 = .ok (.fconst 0, 1) := dk_11 (dk_at dksX3_sealedShare_1 3 rfl rfl)
theorem dX3_sealedShare_26 : decode cX3_sealedShare 26 = .ok (.goto 17, 3) := dk_167 0 17 (dk_at dksX3_sealedShare_1 4 rfl rfl)
theorem dX3_sealedShare_29 : decode cX3_sealedShare 29 = .ok (.aload_n 0, 1) := dk_42 (dk_at dksX3_sealedShare_1 7 rfl rfl)
theorem dX3_sealedShare_30 : decode cX3_sealedShare 30 = .ok (.iconst (-1), 1) := dk_2 (dk_at dksX3_sealedShare_1 8 rfl rfl)
theorem dX3_sealedShare_31 : decode cX3_sealedShare 31 = .ok (.invokevirtual 128, 3) := dk_182 0 128 (dk_at dksX3_sealedShare_1 9 rfl rfl)
theorem dX3_sealedShare_34 : decode cX3_sealedShare 34 = .ok (.i2f, 1) := dk_134 (dk_at dksX3_sealedShare_1 12 rfl rfl)
theorem dX3_sealedShare_35 : decode cX3_sealedShare 35 = .ok (.aload_n 0, 1) := dk_42 (dk_at dksX3_sealedShare_1 13 rfl rfl)
theorem dX3_sealedShare_36 : decode cX3_sealedShare 36 = .ok (.getfield 7, 3) := dk_180 0 7 (dk_at dksX3_sealedShare_1 14 rfl rfl)
theorem dX3_sealedShare_39 : decode cX3_sealedShare 39 = .ok (.iconst 1, 1) := dk_4 (dk_at dksX3_sealedShare_1 17 rfl rfl)
theorem dX3_sealedShare_40 : decode cX3_sealedShare 40 = .ok (.iaload, 1) := dk_46 (dk_at dksX3_sealedShare_1 18 rfl rfl)
theorem dX3_sealedShare_41 : decode cX3_sealedShare 41 = .ok (.i2f, 1) := dk_134 (dk_at dksX3_sealedShare_1 19 rfl rfl)
theorem dX3_sealedShare_42 : decode cX3_sealedShare 42 = .ok (.fdiv, 1) := dk_110 (dk_at dksX3_sealedShare_1 20 rfl rfl)
theorem dX3_sealedShare_43 : decode cX3_sealedShare 43 = .ok (.freturn, 1) := dk_174 (dk_at dksX3_sealedShare_1 21 rfl rfl)
abbrev cX3_undo : ByteArray := prog_20_method_75_code
def yX3_undo : MethodName := ⟨RX3, "undo", "()I"⟩
def dkwX3_undo_2 : List UInt8 := [180, 0, 44, 104, 27, 96, 46, 79, 132, 1, 1, 167, 255, 227, 42, 180, 0, 44, 172]
abbrev dktX3_undo_2 : List UInt8 := dkwX3_undo_2 ++ []
def dkwX3_undo_1 : List UInt8 := [100, 181, 0, 44, 3, 60, 27, 16, 117, 162, 0, 29, 42, 180, 0, 7, 27, 42, 180, 0, 19, 16, 117, 42]
abbrev dktX3_undo_1 : List UInt8 := dkwX3_undo_1 ++ dktX3_undo_2
def dkwX3_undo_0 : List UInt8 := [42, 3, 181, 0, 41, 42, 180, 0, 44, 154, 0, 9, 42, 4, 182, 0, 67, 172, 42, 89, 180, 0, 44, 4]
abbrev dktX3_undo_0 : List UInt8 := dkwX3_undo_0 ++ dktX3_undo_1
theorem dksX3_undo_0 : cX3_undo.data.toList.drop 0 = dktX3_undo_0 := by decide +kernel
theorem dksX3_undo_1 : cX3_undo.data.toList.drop 24 = dktX3_undo_1 := dk_seg dksX3_undo_0 24 rfl rfl
theorem dksX3_undo_2 : cX3_undo.data.toList.drop 48 = dktX3_undo_2 := dk_seg dksX3_undo_1 24 rfl rfl
theorem dX3_undo_0 : decode cX3_undo 0 = .ok (.aload_n 0, 1) := dk_42 (dk_at dksX3_undo_0 0 rfl rfl)
theorem dX3_undo_1 : decode cX3_undo 1 = .ok (.iconst 0, 1) := dk_3 (dk_at dksX3_undo_0 1 rfl rfl)
theorem dX3_undo_2 : decode cX3_undo 2 = .ok (.putfield 41, 3) := dk_181 0 41 (dk_at dksX3_undo_0 2 rfl rfl)
theorem dX3_undo_5 : decode cX3_undo 5 = .ok (.aload_n 0, 1) := dk_42 (dk_at dksX3_undo_0 5 rfl rfl)
theorem dX3_undo_6 : decode cX3_undo 6 = .ok (.getfield 44, 3) := dk_180 0 44 (dk_at dksX3_undo_0 6 rfl rfl)
theorem dX3_undo_9 : decode cX3_undo 9 = .ok (.ifCond .ne 9, 3) := dk_154 0 9 (dk_at dksX3_undo_0 9 rfl rfl)
theorem dX3_undo_12 : decode cX3_undo 12 = .ok (.aload_n 0, 1) := dk_42 (dk_at dksX3_undo_0 12 rfl rfl)
theorem dX3_undo_13 : decode cX3_undo 13 = .ok (.iconst 1, 1) := dk_4 (dk_at dksX3_undo_0 13 rfl rfl)
theorem dX3_undo_14 : decode cX3_undo 14 = .ok (.invokevirtual 67, 3) := dk_182 0 67 (dk_at dksX3_undo_0 14 rfl rfl)
theorem dX3_undo_17 : decode cX3_undo 17 = .ok (.ireturn, 1) := dk_172 (dk_at dksX3_undo_0 17 rfl rfl)
theorem dX3_undo_18 : decode cX3_undo 18 = .ok (.aload_n 0, 1) := dk_42 (dk_at dksX3_undo_0 18 rfl rfl)
theorem dX3_undo_19 : decode cX3_undo 19 = .ok (.dup, 1) := dk_89 (dk_at dksX3_undo_0 19 rfl rfl)
theorem dX3_undo_20 : decode cX3_undo 20 = .ok (.getfield 44, 3) := dk_180 0 44 (dk_at dksX3_undo_0 20 rfl rfl)
theorem dX3_undo_23 : decode cX3_undo 23 = .ok (.iconst 1, 1) := dk_4 (dk_at dksX3_undo_0 23 rfl rfl)
theorem dX3_undo_24 : decode cX3_undo 24 = .ok (.isub, 1) := dk_100 (dk_at dksX3_undo_1 0 rfl rfl)
theorem dX3_undo_25 : decode cX3_undo 25 = .ok (.putfield 44, 3) := dk_181 0 44 (dk_at dksX3_undo_1 1 rfl rfl)
theorem dX3_undo_28 : decode cX3_undo 28 = .ok (.iconst 0, 1) := dk_3 (dk_at dksX3_undo_1 4 rfl rfl)
theorem dX3_undo_29 : decode cX3_undo 29 = .ok (.istore_n 1, 1) := dk_60 (dk_at dksX3_undo_1 5 rfl rfl)
theorem dX3_undo_30 : decode cX3_undo 30 = .ok (.iload_n 1, 1) := dk_27 (dk_at dksX3_undo_1 6 rfl rfl)
theorem dX3_undo_31 : decode cX3_undo 31 = .ok (.bipush 117, 2) := dk_16 117 (dk_at dksX3_undo_1 7 rfl rfl)
theorem dX3_undo_33 : decode cX3_undo 33 = .ok (.if_icmp .ge 29, 3) := dk_162 0 29 (dk_at dksX3_undo_1 9 rfl rfl)
theorem dX3_undo_36 : decode cX3_undo 36 = .ok (.aload_n 0, 1) := dk_42 (dk_at dksX3_undo_1 12 rfl rfl)
theorem dX3_undo_37 : decode cX3_undo 37 = .ok (.getfield 7, 3) := dk_180 0 7 (dk_at dksX3_undo_1 13 rfl rfl)
theorem dX3_undo_40 : decode cX3_undo 40 = .ok (.iload_n 1, 1) := dk_27 (dk_at dksX3_undo_1 16 rfl rfl)
theorem dX3_undo_41 : decode cX3_undo 41 = .ok (.aload_n 0, 1) := dk_42 (dk_at dksX3_undo_1 17 rfl rfl)
theorem dX3_undo_42 : decode cX3_undo 42 = .ok (.getfield 19, 3) := dk_180 0 19 (dk_at dksX3_undo_1 18 rfl rfl)
theorem dX3_undo_45 : decode cX3_undo 45 = .ok (.bipush 117, 2) := dk_16 117 (dk_at dksX3_undo_1 21 rfl rfl)
theorem dX3_undo_47 : decode cX3_undo 47 = .ok (.aload_n 0, 1) := dk_42 (dk_at dksX3_undo_1 23 rfl rfl)
theorem dX3_undo_48 : decode cX3_undo 48 = .ok (.getfield 44, 3) := dk_180 0 44 (dk_at dksX3_undo_2 0 rfl rfl)
theorem dX3_undo_51 : decode cX3_undo 51 = .ok (.imul, 1) := dk_104 (dk_at dksX3_undo_2 3 rfl rfl)
theorem dX3_undo_52 : decode cX3_undo 52 = .ok (.iload_n 1, 1) := dk_27 (dk_at dksX3_undo_2 4 rfl rfl)
theorem dX3_undo_53 : decode cX3_undo 53 = .ok (.iadd, 1) := dk_96 (dk_at dksX3_undo_2 5 rfl rfl)
theorem dX3_undo_54 : decode cX3_undo 54 = .ok (.iaload, 1) := dk_46 (dk_at dksX3_undo_2 6 rfl rfl)
theorem dX3_undo_55 : decode cX3_undo 55 = .ok (.iastore, 1) := dk_79 (dk_at dksX3_undo_2 7 rfl rfl)
theorem dX3_undo_56 : decode cX3_undo 56 = .ok (.iinc 1 1, 3) := dk_132 1 1 (dk_at dksX3_undo_2 8 rfl rfl)
theorem dX3_undo_59 : decode cX3_undo 59 = .ok (.goto (-29), 3) := dk_167 255 227 (dk_at dksX3_undo_2 11 rfl rfl)
theorem dX3_undo_62 : decode cX3_undo 62 = .ok (.aload_n 0, 1) := dk_42 (dk_at dksX3_undo_2 14 rfl rfl)
theorem dX3_undo_63 : decode cX3_undo 63 = .ok (.getfield 44, 3) := dk_180 0 44 (dk_at dksX3_undo_2 15 rfl rfl)
theorem dX3_undo_66 : decode cX3_undo 66 = .ok (.ireturn, 1) := dk_172 (dk_at dksX3_undo_2 18 rfl rfl)
abbrev cX3_save : ByteArray := prog_20_method_76_code
def yX3_save : MethodName := ⟨RX3, "save", "()I"⟩
def dkwX3_save_1 : List UInt8 := [79, 132, 1, 1, 167, 255, 235, 42, 4, 181, 0, 245, 42, 180, 0, 7, 3, 46, 172]
abbrev dktX3_save_1 : List UInt8 := dkwX3_save_1 ++ []
def dkwX3_save_0 : List UInt8 := [42, 3, 181, 0, 41, 3, 60, 27, 16, 117, 162, 0, 21, 42, 180, 0, 16, 27, 42, 180, 0, 7, 27, 46]
abbrev dktX3_save_0 : List UInt8 := dkwX3_save_0 ++ dktX3_save_1
theorem dksX3_save_0 : cX3_save.data.toList.drop 0 = dktX3_save_0 := by decide +kernel
theorem dksX3_save_1 : cX3_save.data.toList.drop 24 = dktX3_save_1 := dk_seg dksX3_save_0 24 rfl rfl
theorem dX3_save_0 : decode cX3_save 0 = .ok (.aload_n 0, 1) := dk_42 (dk_at dksX3_save_0 0 rfl rfl)
theorem dX3_save_1 : decode cX3_save 1 = .ok (.iconst 0, 1) := dk_3 (dk_at dksX3_save_0 1 rfl rfl)
theorem dX3_save_2 : decode cX3_save 2 = .ok (.putfield 41, 3) := dk_181 0 41 (dk_at dksX3_save_0 2 rfl rfl)
theorem dX3_save_5 : decode cX3_save 5 = .ok (.iconst 0, 1) := dk_3 (dk_at dksX3_save_0 5 rfl rfl)
theorem dX3_save_6 : decode cX3_save 6 = .ok (.istore_n 1, 1) := dk_60 (dk_at dksX3_save_0 6 rfl rfl)
theorem dX3_save_7 : decode cX3_save 7 = .ok (.iload_n 1, 1) := dk_27 (dk_at dksX3_save_0 7 rfl rfl)
theorem dX3_save_8 : decode cX3_save 8 = .ok (.bipush 117, 2) := dk_16 117 (dk_at dksX3_save_0 8 rfl rfl)
theorem dX3_save_10 : decode cX3_save 10 = .ok (.if_icmp .ge 21, 3) := dk_162 0 21 (dk_at dksX3_save_0 10 rfl rfl)
theorem dX3_save_13 : decode cX3_save 13 = .ok (.aload_n 0, 1) := dk_42 (dk_at dksX3_save_0 13 rfl rfl)
theorem dX3_save_14 : decode cX3_save 14 = .ok (.getfield 16, 3) := dk_180 0 16 (dk_at dksX3_save_0 14 rfl rfl)
theorem dX3_save_17 : decode cX3_save 17 = .ok (.iload_n 1, 1) := dk_27 (dk_at dksX3_save_0 17 rfl rfl)
theorem dX3_save_18 : decode cX3_save 18 = .ok (.aload_n 0, 1) := dk_42 (dk_at dksX3_save_0 18 rfl rfl)
theorem dX3_save_19 : decode cX3_save 19 = .ok (.getfield 7, 3) := dk_180 0 7 (dk_at dksX3_save_0 19 rfl rfl)
theorem dX3_save_22 : decode cX3_save 22 = .ok (.iload_n 1, 1) := dk_27 (dk_at dksX3_save_0 22 rfl rfl)
theorem dX3_save_23 : decode cX3_save 23 = .ok (.iaload, 1) := dk_46 (dk_at dksX3_save_0 23 rfl rfl)
theorem dX3_save_24 : decode cX3_save 24 = .ok (.iastore, 1) := dk_79 (dk_at dksX3_save_1 0 rfl rfl)
theorem dX3_save_25 : decode cX3_save 25 = .ok (.iinc 1 1, 3) := dk_132 1 1 (dk_at dksX3_save_1 1 rfl rfl)
theorem dX3_save_28 : decode cX3_save 28 = .ok (.goto (-21), 3) := dk_167 255 235 (dk_at dksX3_save_1 4 rfl rfl)
theorem dX3_save_31 : decode cX3_save 31 = .ok (.aload_n 0, 1) := dk_42 (dk_at dksX3_save_1 7 rfl rfl)
theorem dX3_save_32 : decode cX3_save 32 = .ok (.iconst 1, 1) := dk_4 (dk_at dksX3_save_1 8 rfl rfl)
theorem dX3_save_33 : decode cX3_save 33 = .ok (.putfield 245, 3) := dk_181 0 245 (dk_at dksX3_save_1 9 rfl rfl)
theorem dX3_save_36 : decode cX3_save 36 = .ok (.aload_n 0, 1) := dk_42 (dk_at dksX3_save_1 12 rfl rfl)
theorem dX3_save_37 : decode cX3_save 37 = .ok (.getfield 7, 3) := dk_180 0 7 (dk_at dksX3_save_1 13 rfl rfl)
theorem dX3_save_40 : decode cX3_save 40 = .ok (.iconst 0, 1) := dk_3 (dk_at dksX3_save_1 16 rfl rfl)
theorem dX3_save_41 : decode cX3_save 41 = .ok (.iaload, 1) := dk_46 (dk_at dksX3_save_1 17 rfl rfl)
theorem dX3_save_42 : decode cX3_save 42 = .ok (.ireturn, 1) := dk_172 (dk_at dksX3_save_1 18 rfl rfl)
abbrev cX3_restore : ByteArray := prog_20_method_77_code
def yX3_restore : MethodName := ⟨RX3, "restore", "()I"⟩
def dkwX3_restore_2 : List UInt8 := [181, 0, 44, 42, 180, 0, 7, 3, 46, 172]
abbrev dktX3_restore_2 : List UInt8 := dkwX3_restore_2 ++ []
def dkwX3_restore_1 : List UInt8 := [162, 0, 21, 42, 180, 0, 7, 27, 42, 180, 0, 16, 27, 46, 79, 132, 1, 1, 167, 255, 235, 42, 3]
abbrev dktX3_restore_1 : List UInt8 := dkwX3_restore_1 ++ dktX3_restore_2
def dkwX3_restore_0 : List UInt8 := [42, 3, 181, 0, 41, 42, 180, 0, 245, 154, 0, 9, 42, 4, 182, 0, 67, 172, 3, 60, 27, 16, 117]
abbrev dktX3_restore_0 : List UInt8 := dkwX3_restore_0 ++ dktX3_restore_1
theorem dksX3_restore_0 : cX3_restore.data.toList.drop 0 = dktX3_restore_0 := by decide +kernel
theorem dksX3_restore_1 : cX3_restore.data.toList.drop 23 = dktX3_restore_1 := dk_seg dksX3_restore_0 23 rfl rfl
theorem dksX3_restore_2 : cX3_restore.data.toList.drop 46 = dktX3_restore_2 := dk_seg dksX3_restore_1 23 rfl rfl
theorem dX3_restore_0 : decode cX3_restore 0 = .ok (.aload_n 0, 1) := dk_42 (dk_at dksX3_restore_0 0 rfl rfl)
theorem dX3_restore_1 : decode cX3_restore 1 = .ok (.iconst 0, 1) := dk_3 (dk_at dksX3_restore_0 1 rfl rfl)
theorem dX3_restore_2 : decode cX3_restore 2 = .ok (.putfield 41, 3) := dk_181 0 41 (dk_at dksX3_restore_0 2 rfl rfl)
theorem dX3_restore_5 : decode cX3_restore 5 = .ok (.aload_n 0, 1) := dk_42 (dk_at dksX3_restore_0 5 rfl rfl)
theorem dX3_restore_6 : decode cX3_restore 6 = .ok (.getfield 245, 3) := dk_180 0 245 (dk_at dksX3_restore_0 6 rfl rfl)
theorem dX3_restore_9 : decode cX3_restore 9 = .ok (.ifCond .ne 9, 3) := dk_154 0 9 (dk_at dksX3_restore_0 9 rfl rfl)
theorem dX3_restore_12 : decode cX3_restore 12 = .ok (.aload_n 0, 1) := dk_42 (dk_at dksX3_restore_0 12 rfl rfl)
theorem dX3_restore_13 : decode cX3_restore 13 = .ok (.iconst 1, 1) := dk_4 (dk_at dksX3_restore_0 13 rfl rfl)
theorem dX3_restore_14 : decode cX3_restore 14 = .ok (.invokevirtual 67, 3) := dk_182 0 67 (dk_at dksX3_restore_0 14 rfl rfl)
theorem dX3_restore_17 : decode cX3_restore 17 = .ok (.ireturn, 1) := dk_172 (dk_at dksX3_restore_0 17 rfl rfl)
theorem dX3_restore_18 : decode cX3_restore 18 = .ok (.iconst 0, 1) := dk_3 (dk_at dksX3_restore_0 18 rfl rfl)
theorem dX3_restore_19 : decode cX3_restore 19 = .ok (.istore_n 1, 1) := dk_60 (dk_at dksX3_restore_0 19 rfl rfl)
theorem dX3_restore_20 : decode cX3_restore 20 = .ok (.iload_n 1, 1) := dk_27 (dk_at dksX3_restore_0 20 rfl rfl)
theorem dX3_restore_21 : decode cX3_restore 21 = .ok (.bipush 117, 2) := dk_16 117 (dk_at dksX3_restore_0 21 rfl rfl)
theorem dX3_restore_23 : decode cX3_restore 23 = .ok (.if_icmp .ge 21, 3) := dk_162 0 21 (dk_at dksX3_restore_1 0 rfl rfl)
theorem dX3_restore_26 : decode cX3_restore 26 = .ok (.aload_n 0, 1) := dk_42 (dk_at dksX3_restore_1 3 rfl rfl)
theorem dX3_restore_27 : decode cX3_restore 27 = .ok (.getfield 7, 3) := dk_180 0 7 (dk_at dksX3_restore_1 4 rfl rfl)
theorem dX3_restore_30 : decode cX3_restore 30 = .ok (.iload_n 1, 1) := dk_27 (dk_at dksX3_restore_1 7 rfl rfl)
theorem dX3_restore_31 : decode cX3_restore 31 = .ok (.aload_n 0, 1) := dk_42 (dk_at dksX3_restore_1 8 rfl rfl)
theorem dX3_restore_32 : decode cX3_restore 32 = .ok (.getfield 16, 3) := dk_180 0 16 (dk_at dksX3_restore_1 9 rfl rfl)
theorem dX3_restore_35 : decode cX3_restore 35 = .ok (.iload_n 1, 1) := dk_27 (dk_at dksX3_restore_1 12 rfl rfl)
theorem dX3_restore_36 : decode cX3_restore 36 = .ok (.iaload, 1) := dk_46 (dk_at dksX3_restore_1 13 rfl rfl)
theorem dX3_restore_37 : decode cX3_restore 37 = .ok (.iastore, 1) := dk_79 (dk_at dksX3_restore_1 14 rfl rfl)
theorem dX3_restore_38 : decode cX3_restore 38 = .ok (.iinc 1 1, 3) := dk_132 1 1 (dk_at dksX3_restore_1 15 rfl rfl)
theorem dX3_restore_41 : decode cX3_restore 41 = .ok (.goto (-21), 3) := dk_167 255 235 (dk_at dksX3_restore_1 18 rfl rfl)
theorem dX3_restore_44 : decode cX3_restore 44 = .ok (.aload_n 0, 1) := dk_42 (dk_at dksX3_restore_1 21 rfl rfl)
theorem dX3_restore_45 : decode cX3_restore 45 = .ok (.iconst 0, 1) := dk_3 (dk_at dksX3_restore_1 22 rfl rfl)
theorem dX3_restore_46 : decode cX3_restore 46 = .ok (.putfield 44, 3) := dk_181 0 44 (dk_at dksX3_restore_2 0 rfl rfl)
theorem dX3_restore_49 : decode cX3_restore 49 = .ok (.aload_n 0, 1) := dk_42 (dk_at dksX3_restore_2 3 rfl rfl)
theorem dX3_restore_50 : decode cX3_restore 50 = .ok (.getfield 7, 3) := dk_180 0 7 (dk_at dksX3_restore_2 4 rfl rfl)
theorem dX3_restore_53 : decode cX3_restore 53 = .ok (.iconst 0, 1) := dk_3 (dk_at dksX3_restore_2 7 rfl rfl)
theorem dX3_restore_54 : decode cX3_restore 54 = .ok (.iaload, 1) := dk_46 (dk_at dksX3_restore_2 8 rfl rfl)
theorem dX3_restore_55 : decode cX3_restore 55 = .ok (.ireturn, 1) := dk_172 (dk_at dksX3_restore_2 9 rfl rfl)
