/-! code and decode rows of X2 (claim/names) -/
set_option maxRecDepth 100000
abbrev cX2_init : ByteArray := prog_13_method_1_code
def yX2_init : MethodName := ⟨RX2, "<init>", "()V"⟩
def dkwX2_init_2 : List UInt8 := [42, 180, 0, 9, 27, 5, 79, 132, 1, 1, 167, 255, 241, 177]
abbrev dktX2_init_2 : List UInt8 := dkwX2_init_2 ++ []
def dkwX2_init_1 : List UInt8 := [183, 0, 20, 181, 0, 21, 42, 187, 0, 18, 89, 183, 0, 20, 181, 0, 25, 3, 60, 27, 8, 162, 0, 16]
abbrev dktX2_init_1 : List UInt8 := dkwX2_init_1 ++ dktX2_init_2
def dkwX2_init_0 : List UInt8 := [42, 183, 0, 3, 42, 8, 188, 10, 181, 0, 9, 42, 8, 188, 10, 181, 0, 15, 42, 187, 0, 18, 89]
abbrev dktX2_init_0 : List UInt8 := dkwX2_init_0 ++ dktX2_init_1
theorem dksX2_init_0 : cX2_init.data.toList.drop 0 = dktX2_init_0 := by decide +kernel
theorem dksX2_init_1 : cX2_init.data.toList.drop 23 = dktX2_init_1 := dk_seg dksX2_init_0 23 rfl rfl
theorem dksX2_init_2 : cX2_init.data.toList.drop 47 = dktX2_init_2 := dk_seg dksX2_init_1 24 rfl rfl
theorem dX2_init_0 : decode cX2_init 0 = .ok (.aload_n 0, 1) := dk_42 (dk_at dksX2_init_0 0 rfl rfl)
theorem dX2_init_1 : decode cX2_init 1 = .ok (.invokespecial 3, 3) := dk_183 0 3 (dk_at dksX2_init_0 1 rfl rfl)
theorem dX2_init_4 : decode cX2_init 4 = .ok (.aload_n 0, 1) := dk_42 (dk_at dksX2_init_0 4 rfl rfl)
theorem dX2_init_5 : decode cX2_init 5 = .ok (.iconst 5, 1) := dk_8 (dk_at dksX2_init_0 5 rfl rfl)
theorem dX2_init_6 : decode cX2_init 6 = .ok (.newarray .int, 2) := dk_188_10 (dk_at dksX2_init_0 6 rfl rfl)
theorem dX2_init_8 : decode cX2_init 8 = .ok (.putfield 9, 3) := dk_181 0 9 (dk_at dksX2_init_0 8 rfl rfl)
theorem dX2_init_11 : decode cX2_init 11 = .ok (.aload_n 0, 1) := dk_42 (dk_at dksX2_init_0 11 rfl rfl)
theorem dX2_init_12 : decode cX2_init 12 = .ok (.iconst 5, 1) := dk_8 (dk_at dksX2_init_0 12 rfl rfl)
theorem dX2_init_13 : decode cX2_init 13 = .ok (.newarray .int, 2) := dk_188_10 (dk_at dksX2_init_0 13 rfl rfl)
theorem dX2_init_15 : decode cX2_init 15 = .ok (.putfield 15, 3) := dk_181 0 15 (dk_at dksX2_init_0 15 rfl rfl)
theorem dX2_init_18 : decode cX2_init 18 = .ok (.aload_n 0, 1) := dk_42 (dk_at dksX2_init_0 18 rfl rfl)
theorem dX2_init_19 : decode cX2_init 19 = .ok (.new 18, 3) := dk_187 0 18 (dk_at dksX2_init_0 19 rfl rfl)
theorem dX2_init_22 : decode cX2_init 22 = .ok (.dup, 1) := dk_89 (dk_at dksX2_init_0 22 rfl rfl)
theorem dX2_init_23 : decode cX2_init 23 = .ok (.invokespecial 20, 3) := dk_183 0 20 (dk_at dksX2_init_1 0 rfl rfl)
theorem dX2_init_26 : decode cX2_init 26 = .ok (.putfield 21, 3) := dk_181 0 21 (dk_at dksX2_init_1 3 rfl rfl)
theorem dX2_init_29 : decode cX2_init 29 = .ok (.aload_n 0, 1) := dk_42 (dk_at dksX2_init_1 6 rfl rfl)
theorem dX2_init_30 : decode cX2_init 30 = .ok (.new 18, 3) := dk_187 0 18 (dk_at dksX2_init_1 7 rfl rfl)
theorem dX2_init_33 : decode cX2_init 33 = .ok (.dup, 1) := dk_89 (dk_at dksX2_init_1 10 rfl rfl)
theorem dX2_init_34 : decode cX2_init 34 = .ok (.invokespecial 20, 3) := dk_183 0 20 (dk_at dksX2_init_1 11 rfl rfl)
theorem dX2_init_37 : decode cX2_init 37 = .ok (.putfield 25, 3) := dk_181 0 25 (dk_at dksX2_init_1 14 rfl rfl)
theorem dX2_init_40 : decode cX2_init 40 = .ok (.iconst 0, 1) := dk_3 (dk_at dksX2_init_1 17 rfl rfl)
theorem dX2_init_41 : decode cX2_init 41 = .ok (.istore_n 1, 1) := dk_60 (dk_at dksX2_init_1 18 rfl rfl)
theorem dX2_init_42 : decode cX2_init 42 = .ok (.iload_n 1, 1) := dk_27 (dk_at dksX2_init_1 19 rfl rfl)
theorem dX2_init_43 : decode cX2_init 43 = .ok (.iconst 5, 1) := dk_8 (dk_at dksX2_init_1 20 rfl rfl)
theorem dX2_init_44 : decode cX2_init 44 = .ok (.if_icmp .ge 16, 3) := dk_162 0 16 (dk_at dksX2_init_1 21 rfl rfl)
theorem dX2_init_47 : decode cX2_init 47 = .ok (.aload_n 0, 1) := dk_42 (dk_at dksX2_init_2 0 rfl rfl)
theorem dX2_init_48 : decode cX2_init 48 = .ok (.getfield 9, 3) := dk_180 0 9 (dk_at dksX2_init_2 1 rfl rfl)
theorem dX2_init_51 : decode cX2_init 51 = .ok (.iload_n 1, 1) := dk_27 (dk_at dksX2_init_2 4 rfl rfl)
theorem dX2_init_52 : decode cX2_init 52 = .ok (.iconst 2, 1) := dk_5 (dk_at dksX2_init_2 5 rfl rfl)
theorem dX2_init_53 : decode cX2_init 53 = .ok (.iastore, 1) := dk_79 (dk_at dksX2_init_2 6 rfl rfl)
theorem dX2_init_54 : decode cX2_init 54 = .ok (.iinc 1 1, 3) := dk_132 1 1 (dk_at dksX2_init_2 7 rfl rfl)
theorem dX2_init_57 : decode cX2_init 57 = .ok (.goto (-15), 3) := dk_167 255 241 (dk_at dksX2_init_2 10 rfl rfl)
theorem dX2_init_60 : decode cX2_init 60 = .ok (.return_, 1) := dk_177 (dk_at dksX2_init_2 13 rfl rfl)
abbrev cX2_allFines : ByteArray := prog_13_method_10_code
def yX2_allFines : MethodName := ⟨RX2, "allFines", "()I"⟩
def dkwX2_allFines_0 : List UInt8 := [42, 180, 0, 15, 184, 0, 91, 172]
abbrev dktX2_allFines_0 : List UInt8 := dkwX2_allFines_0 ++ []
theorem dksX2_allFines_0 : cX2_allFines.data.toList.drop 0 = dktX2_allFines_0 := by decide +kernel
theorem dX2_allFines_0 : decode cX2_allFines 0 = .ok (.aload_n 0, 1) := dk_42 (dk_at dksX2_allFines_0 0 rfl rfl)
theorem dX2_allFines_1 : decode cX2_allFines 1 = .ok (.getfield 15, 3) := dk_180 0 15 (dk_at dksX2_allFines_0 1 rfl rfl)
theorem dX2_allFines_4 : decode cX2_allFines 4 = .ok (.invokestatic 91, 3) := dk_184 0 91 (dk_at dksX2_allFines_0 4 rfl rfl)
theorem dX2_allFines_7 : decode cX2_allFines 7 = .ok (.ireturn, 1) := dk_172 (dk_at dksX2_allFines_0 7 rfl rfl)
abbrev cX2_day : ByteArray := prog_13_method_11_code
def yX2_day : MethodName := ⟨RX2, "day", "()I"⟩
theorem dX2_day_0 : decode cX2_day 0 = .ok (.aload_n 0, 1) := by decide +kernel
theorem dX2_day_1 : decode cX2_day 1 = .ok (.getfield 72, 3) := by decide +kernel
theorem dX2_day_4 : decode cX2_day 4 = .ok (.ireturn, 1) := by decide +kernel
abbrev cX2_copy : ByteArray := prog_13_method_2_code
def yX2_copy : MethodName := ⟨RX2, "copy", "()LBrassInspector$Round;"⟩
def dkwX2_copy_6 : List UInt8 := [180, 0, 72, 181, 0, 72, 43, 42, 180, 0, 76, 181, 0, 76, 43, 42, 180, 0, 79, 181, 0, 79, 43, 176]
abbrev dktX2_copy_6 : List UInt8 := dkwX2_copy_6 ++ []
def dkwX2_copy_5 : List UInt8 := [192, 0, 66, 78, 43, 180, 0, 25, 45, 182, 0, 68, 185, 0, 62, 2, 0, 87, 167, 255, 223, 43, 42]
abbrev dktX2_copy_5 : List UInt8 := dkwX2_copy_5 ++ dktX2_copy_6
def dkwX2_copy_4 : List UInt8 := [180, 0, 25, 185, 0, 35, 1, 0, 77, 44, 185, 0, 41, 1, 0, 153, 0, 30, 44, 185, 0, 47, 1, 0]
abbrev dktX2_copy_4 : List UInt8 := dkwX2_copy_4 ++ dktX2_copy_5
def dkwX2_copy_3 : List UInt8 := [187, 0, 51, 89, 43, 89, 184, 0, 53, 87, 45, 183, 0, 59, 185, 0, 62, 2, 0, 87, 167, 255, 213, 42]
abbrev dktX2_copy_3 : List UInt8 := dkwX2_copy_3 ++ dktX2_copy_4
def dkwX2_copy_2 : List UInt8 := [185, 0, 41, 1, 0, 153, 0, 40, 44, 185, 0, 47, 1, 0, 192, 0, 51, 78, 43, 180, 0, 21]
abbrev dktX2_copy_2 : List UInt8 := dkwX2_copy_2 ++ dktX2_copy_3
def dkwX2_copy_1 : List UInt8 := [180, 0, 15, 3, 43, 180, 0, 15, 3, 8, 184, 0, 29, 42, 180, 0, 21, 185, 0, 35, 1, 0, 77, 44]
abbrev dktX2_copy_1 : List UInt8 := dkwX2_copy_1 ++ dktX2_copy_2
def dkwX2_copy_0 : List UInt8 := [187, 0, 10, 89, 183, 0, 28, 76, 42, 180, 0, 9, 3, 43, 180, 0, 9, 3, 8, 184, 0, 29, 42]
abbrev dktX2_copy_0 : List UInt8 := dkwX2_copy_0 ++ dktX2_copy_1
theorem dksX2_copy_0 : cX2_copy.data.toList.drop 0 = dktX2_copy_0 := by decide +kernel
theorem dksX2_copy_1 : cX2_copy.data.toList.drop 23 = dktX2_copy_1 := dk_seg dksX2_copy_0 23 rfl rfl
theorem dksX2_copy_2 : cX2_copy.data.toList.drop 47 = dktX2_copy_2 := dk_seg dksX2_copy_1 24 rfl rfl
theorem dksX2_copy_3 : cX2_copy.data.toList.drop 69 = dktX2_copy_3 := dk_seg dksX2_copy_2 22 rfl rfl
theorem dksX2_copy_4 : cX2_copy.data.toList.drop 93 = dktX2_copy_4 := dk_seg dksX2_copy_3 24 rfl rfl
theorem dksX2_copy_5 : cX2_copy.data.toList.drop 117 = dktX2_copy_5 := dk_seg dksX2_copy_4 24 rfl rfl
theorem dksX2_copy_6 : cX2_copy.data.toList.drop 140 = dktX2_copy_6 := dk_seg dksX2_copy_5 23 rfl rfl
theorem dX2_copy_0 : decode cX2_copy 0 = .ok (.new 10, 3) := dk_187 0 10 (dk_at dksX2_copy_0 0 rfl rfl)
theorem dX2_copy_3 : decode cX2_copy 3 = .ok (.dup, 1) := dk_89 (dk_at dksX2_copy_0 3 rfl rfl)
theorem dX2_copy_4 : decode cX2_copy 4 = .ok (.invokespecial 28, 3) := dk_183 0 28 (dk_at dksX2_copy_0 4 rfl rfl)
theorem dX2_copy_7 : decode cX2_copy 7 = .ok (.astore_n 1, 1) := dk_76 (dk_at dksX2_copy_0 7 rfl rfl)
theorem dX2_copy_8 : decode cX2_copy 8 = .ok (.aload_n 0, 1) := dk_42 (dk_at dksX2_copy_0 8 rfl rfl)
theorem dX2_copy_9 : decode cX2_copy 9 = .ok (.getfield 9, 3) := dk_180 0 9 (dk_at dksX2_copy_0 9 rfl rfl)
theorem dX2_copy_12 : decode cX2_copy 12 = .ok (.iconst 0, 1) := dk_3 (dk_at dksX2_copy_0 12 rfl rfl)
theorem dX2_copy_13 : decode cX2_copy 13 = .ok (.aload_n 1, 1) := dk_43 (dk_at dksX2_copy_0 13 rfl rfl)
theorem dX2_copy_14 : decode cX2_copy 14 = .ok (.getfield 9, 3) := dk_180 0 9 (dk_at dksX2_copy_0 14 rfl rfl)
theorem dX2_copy_17 : decode cX2_copy 17 = .ok (.iconst 0, 1) := dk_3 (dk_at dksX2_copy_0 17 rfl rfl)
theorem dX2_copy_18 : decode cX2_copy 18 = .ok (.iconst 5, 1) := dk_8 (dk_at dksX2_copy_0 18 rfl rfl)
theorem dX2_copy_19 : decode cX2_copy 19 = .ok (.invokestatic 29, 3) := dk_184 0 29 (dk_at dksX2_copy_0 19 rfl rfl)
theorem dX2_copy_22 : decode cX2_copy 22 = .ok (.aload_n 0, 1) := dk_42 (dk_at dksX2_copy_0 22 rfl rfl)
theorem dX2_copy_23 : decode cX2_copy 23 = .ok (.getfield 15, 3) := dk_180 0 15 (dk_at dksX2_copy_1 0 rfl rfl)
theorem dX2_copy_26 : decode cX2_copy 26 = .ok (.iconst 0, 1) := dk_3 (dk_at dksX2_copy_1 3 rfl rfl)
theorem dX2_copy_27 : decode cX2_copy 27 = .ok (.aload_n 1, 1) := dk_43 (dk_at dksX2_copy_1 4 rfl rfl)
theorem dX2_copy_28 : decode cX2_copy 28 = .ok (.getfield 15, 3) := dk_180 0 15 (dk_at dksX2_copy_1 5 rfl rfl)
theorem dX2_copy_31 : decode cX2_copy 31 = .ok (.iconst 0, 1) := dk_3 (dk_at dksX2_copy_1 8 rfl rfl)
theorem dX2_copy_32 : decode cX2_copy 32 = .ok (.iconst 5, 1) := dk_8 (dk_at dksX2_copy_1 9 rfl rfl)
theorem dX2_copy_33 : decode cX2_copy 33 = .ok (.invokestatic 29, 3) := dk_184 0 29 (dk_at dksX2_copy_1 10 rfl rfl)
theorem dX2_copy_36 : decode cX2_copy 36 = .ok (.aload_n 0, 1) := dk_42 (dk_at dksX2_copy_1 13 rfl rfl)
theorem dX2_copy_37 : decode cX2_copy 37 = .ok (.getfield 21, 3) := dk_180 0 21 (dk_at dksX2_copy_1 14 rfl rfl)
theorem dX2_copy_40 : decode cX2_copy 40 = .ok (.invokeinterface 35 1, 5) := by decide +kernel
theorem dX2_copy_45 : decode cX2_copy 45 = .ok (.astore_n 2, 1) := dk_77 (dk_at dksX2_copy_1 22 rfl rfl)
theorem dX2_copy_46 : decode cX2_copy 46 = .ok (.aload_n 2, 1) := dk_44 (dk_at dksX2_copy_1 23 rfl rfl)
theorem dX2_copy_47 : decode cX2_copy 47 = .ok (.invokeinterface 41 1, 5) := by decide +kernel
theorem dX2_copy_52 : decode cX2_copy 52 = .ok (.ifCond .eq 40, 3) := dk_153 0 40 (dk_at dksX2_copy_2 5 rfl rfl)
theorem dX2_copy_55 : decode cX2_copy 55 = .ok (.aload_n 2, 1) := dk_44 (dk_at dksX2_copy_2 8 rfl rfl)
theorem dX2_copy_56 : decode cX2_copy 56 = .ok (.invokeinterface 47 1, 5) := by decide +kernel
theorem dX2_copy_61 : decode cX2_copy 61 = .ok (.checkcast 51, 3) := dk_192 0 51 (dk_at dksX2_copy_2 14 rfl rfl)
theorem dX2_copy_64 : decode cX2_copy 64 = .ok (.astore_n 3, 1) := dk_78 (dk_at dksX2_copy_2 17 rfl rfl)
theorem dX2_copy_65 : decode cX2_copy 65 = .ok (.aload_n 1, 1) := dk_43 (dk_at dksX2_copy_2 18 rfl rfl)
theorem dX2_copy_66 : decode cX2_copy 66 = .ok (.getfield 21, 3) := dk_180 0 21 (dk_at dksX2_copy_2 19 rfl rfl)
theorem dX2_copy_69 : decode cX2_copy 69 = .ok (.new 51, 3) := dk_187 0 51 (dk_at dksX2_copy_3 0 rfl rfl)
theorem dX2_copy_72 : decode cX2_copy 72 = .ok (.dup, 1) := dk_89 (dk_at dksX2_copy_3 3 rfl rfl)
theorem dX2_copy_73 : decode cX2_copy 73 = .ok (.aload_n 1, 1) := dk_43 (dk_at dksX2_copy_3 4 rfl rfl)
theorem dX2_copy_74 : decode cX2_copy 74 = .ok (.dup, 1) := dk_89 (dk_at dksX2_copy_3 5 rfl rfl)
theorem dX2_copy_75 : decode cX2_copy 75 = .ok (.invokestatic 53, 3) := dk_184 0 53 (dk_at dksX2_copy_3 6 rfl rfl)
theorem dX2_copy_78 : decode cX2_copy 78 = .ok (.pop, 1) := dk_87 (dk_at dksX2_copy_3 9 rfl rfl)
theorem dX2_copy_79 : decode cX2_copy 79 = .ok (.aload_n 3, 1) := dk_45 (dk_at dksX2_copy_3 10 rfl rfl)
theorem dX2_copy_80 : decode cX2_copy 80 = .ok (.invokespecial 59, 3) := dk_183 0 59 (dk_at dksX2_copy_3 11 rfl rfl)
theorem dX2_copy_83 : decode cX2_copy 83 = .ok (.invokeinterface 62 2, 5) := by decide +kernel
theorem dX2_copy_88 : decode cX2_copy 88 = .ok (.pop, 1) := dk_87 (dk_at dksX2_copy_3 19 rfl rfl)
theorem dX2_copy_89 : decode cX2_copy 89 = .ok (.goto (-43), 3) := dk_167 255 213 (dk_at dksX2_copy_3 20 rfl rfl)
theorem dX2_copy_92 : decode cX2_copy 92 = .ok (.aload_n 0, 1) := dk_42 (dk_at dksX2_copy_3 23 rfl rfl)
theorem dX2_copy_93 : decode cX2_copy 93 = .ok (.getfield 25, 3) := dk_180 0 25 (dk_at dksX2_copy_4 0 rfl rfl)
theorem dX2_copy_96 : decode cX2_copy 96 = .ok (.invokeinterface 35 1, 5) := by decide +kernel
theorem dX2_copy_101 : decode cX2_copy 101 = .ok (.astore_n 2, 1) := dk_77 (dk_at dksX2_copy_4 8 rfl rfl)
theorem dX2_copy_102 : decode cX2_copy 102 = .ok (.aload_n 2, 1) := dk_44 (dk_at dksX2_copy_4 9 rfl rfl)
theorem dX2_copy_103 : decode cX2_copy 103 = .ok (.invokeinterface 41 1, 5) := by decide +kernel
theorem dX2_copy_108 : decode cX2_copy 108 = .ok (.ifCond .eq 30, 3) := dk_153 0 30 (dk_at dksX2_copy_4 15 rfl rfl)
theorem dX2_copy_111 : decode cX2_copy 111 = .ok (.aload_n 2, 1) := dk_44 (dk_at dksX2_copy_4 18 rfl rfl)
theorem dX2_copy_112 : decode cX2_copy 112 = .ok (.invokeinterface 47 1, 5) := by decide +kernel
theorem dX2_copy_117 : decode cX2_copy 117 = .ok (.checkcast 66, 3) := dk_192 0 66 (dk_at dksX2_copy_5 0 rfl rfl)
theorem dX2_copy_120 : decode cX2_copy 120 = .ok (.astore_n 3, 1) := dk_78 (dk_at dksX2_copy_5 3 rfl rfl)
theorem dX2_copy_121 : decode cX2_copy 121 = .ok (.aload_n 1, 1) := dk_43 (dk_at dksX2_copy_5 4 rfl rfl)
theorem dX2_copy_122 : decode cX2_copy 122 = .ok (.getfield 25, 3) := dk_180 0 25 (dk_at dksX2_copy_5 5 rfl rfl)
theorem dX2_copy_125 : decode cX2_copy 125 = .ok (.aload_n 3, 1) := dk_45 (dk_at dksX2_copy_5 8 rfl rfl)
theorem dX2_copy_126 : decode cX2_copy 126 = .ok (.invokevirtual 68, 3) := dk_182 0 68 (dk_at dksX2_copy_5 9 rfl rfl)
theorem dX2_copy_129 : decode cX2_copy 129 = .ok (.invokeinterface 62 2, 5) := by decide +kernel
theorem dX2_copy_134 : decode cX2_copy 134 = .ok (.pop, 1) := dk_87 (dk_at dksX2_copy_5 17 rfl rfl)
theorem dX2_copy_135 : decode cX2_copy 135 = .ok (.goto (-33), 3) := dk_167 255 223 (dk_at dksX2_copy_5 18 rfl rfl)
theorem dX2_copy_138 : decode cX2_copy 138 = .ok (.aload_n 1, 1) := dk_43 (dk_at dksX2_copy_5 21 rfl rfl)
theorem dX2_copy_139 : decode cX2_copy 139 = .ok (.aload_n 0, 1) := dk_42 (dk_at dksX2_copy_5 22 rfl rfl)
theorem dX2_copy_140 : decode cX2_copy 140 = .ok (.getfield 72, 3) := dk_180 0 72 (dk_at dksX2_copy_6 0 rfl rfl)
theorem dX2_copy_143 : decode cX2_copy 143 = .ok (.putfield 72, 3) := dk_181 0 72 (dk_at dksX2_copy_6 3 rfl rfl)
theorem dX2_copy_146 : decode cX2_copy 146 = .ok (.aload_n 1, 1) := dk_43 (dk_at dksX2_copy_6 6 rfl rfl)
theorem dX2_copy_147 : decode cX2_copy 147 = .ok (.aload_n 0, 1) := dk_42 (dk_at dksX2_copy_6 7 rfl rfl)
theorem dX2_copy_148 : decode cX2_copy 148 = .ok (.getfield 76, 3) := dk_180 0 76 (dk_at dksX2_copy_6 8 rfl rfl)
theorem dX2_copy_151 : decode cX2_copy 151 = .ok (.putfield 76, 3) := dk_181 0 76 (dk_at dksX2_copy_6 11 rfl rfl)
theorem dX2_copy_154 : decode cX2_copy 154 = .ok (.aload_n 1, 1) := dk_43 (dk_at dksX2_copy_6 14 rfl rfl)
theorem dX2_copy_155 : decode cX2_copy 155 = .ok (.aload_n 0, 1) := dk_42 (dk_at dksX2_copy_6 15 rfl rfl)
theorem dX2_copy_156 : decode cX2_copy 156 = .ok (.getfield 79, 3) := dk_180 0 79 (dk_at dksX2_copy_6 16 rfl rfl)
theorem dX2_copy_159 : decode cX2_copy 159 = .ok (.putfield 79, 3) := dk_181 0 79 (dk_at dksX2_copy_6 19 rfl rfl)
theorem dX2_copy_162 : decode cX2_copy 162 = .ok (.aload_n 1, 1) := dk_43 (dk_at dksX2_copy_6 22 rfl rfl)
theorem dX2_copy_163 : decode cX2_copy 163 = .ok (.areturn, 1) := dk_176 (dk_at dksX2_copy_6 23 rfl rfl)
abbrev cX2_rate : ByteArray := prog_13_method_15_code
def yX2_rate : MethodName := ⟨RX2, "rate", "(II)I"⟩
def dkwX2_rate_0 : List UInt8 := [42, 180, 0, 9, 27, 46, 62, 42, 180, 0, 9, 27, 28, 79, 29, 172]
abbrev dktX2_rate_0 : List UInt8 := dkwX2_rate_0 ++ []
theorem dksX2_rate_0 : cX2_rate.data.toList.drop 0 = dktX2_rate_0 := by decide +kernel
theorem dX2_rate_0 : decode cX2_rate 0 = .ok (.aload_n 0, 1) := dk_42 (dk_at dksX2_rate_0 0 rfl rfl)
theorem dX2_rate_1 : decode cX2_rate 1 = .ok (.getfield 9, 3) := dk_180 0 9 (dk_at dksX2_rate_0 1 rfl rfl)
theorem dX2_rate_4 : decode cX2_rate 4 = .ok (.iload_n 1, 1) := dk_27 (dk_at dksX2_rate_0 4 rfl rfl)
theorem dX2_rate_5 : decode cX2_rate 5 = .ok (.iaload, 1) := dk_46 (dk_at dksX2_rate_0 5 rfl rfl)
theorem dX2_rate_6 : decode cX2_rate 6 = .ok (.istore_n 3, 1) := dk_62 (dk_at dksX2_rate_0 6 rfl rfl)
theorem dX2_rate_7 : decode cX2_rate 7 = .ok (.aload_n 0, 1) := dk_42 (dk_at dksX2_rate_0 7 rfl rfl)
theorem dX2_rate_8 : decode cX2_rate 8 = .ok (.getfield 9, 3) := dk_180 0 9 (dk_at dksX2_rate_0 8 rfl rfl)
theorem dX2_rate_11 : decode cX2_rate 11 = .ok (.iload_n 1, 1) := dk_27 (dk_at dksX2_rate_0 11 rfl rfl)
theorem dX2_rate_12 : decode cX2_rate 12 = .ok (.iload_n 2, 1) := dk_28 (dk_at dksX2_rate_0 12 rfl rfl)
theorem dX2_rate_13 : decode cX2_rate 13 = .ok (.iastore, 1) := dk_79 (dk_at dksX2_rate_0 13 rfl rfl)
theorem dX2_rate_14 : decode cX2_rate 14 = .ok (.iload_n 3, 1) := dk_29 (dk_at dksX2_rate_0 14 rfl rfl)
theorem dX2_rate_15 : decode cX2_rate 15 = .ok (.ireturn, 1) := dk_172 (dk_at dksX2_rate_0 15 rfl rfl)
abbrev cX2_comes : ByteArray := prog_13_method_16_code
def yX2_comes : MethodName := ⟨RX2, "comes", "(III)I"⟩
def dkwX2_comes_2 : List UInt8 := [183, 0, 103, 185, 0, 62, 2, 0, 87, 42, 180, 0, 21, 185, 0, 95, 1, 0, 4, 100, 172]
abbrev dktX2_comes_2 : List UInt8 := dkwX2_comes_2 ++ []
def dkwX2_comes_1 : List UInt8 := [184, 0, 99, 42, 180, 0, 21, 187, 0, 51, 89, 42, 42, 180, 0, 21, 185, 0, 95, 1, 0, 27, 28, 29]
abbrev dktX2_comes_1 : List UInt8 := dkwX2_comes_1 ++ dktX2_comes_2
def dkwX2_comes_0 : List UInt8 := [42, 180, 0, 21, 185, 0, 95, 1, 0, 16, 10, 162, 0, 7, 4, 167, 0, 4, 3, 4, 16, 10]
abbrev dktX2_comes_0 : List UInt8 := dkwX2_comes_0 ++ dktX2_comes_1
theorem dksX2_comes_0 : cX2_comes.data.toList.drop 0 = dktX2_comes_0 := by decide +kernel
theorem dksX2_comes_1 : cX2_comes.data.toList.drop 22 = dktX2_comes_1 := dk_seg dksX2_comes_0 22 rfl rfl
theorem dksX2_comes_2 : cX2_comes.data.toList.drop 46 = dktX2_comes_2 := dk_seg dksX2_comes_1 24 rfl rfl
theorem dX2_comes_0 : decode cX2_comes 0 = .ok (.aload_n 0, 1) := dk_42 (dk_at dksX2_comes_0 0 rfl rfl)
theorem dX2_comes_1 : decode cX2_comes 1 = .ok (.getfield 21, 3) := dk_180 0 21 (dk_at dksX2_comes_0 1 rfl rfl)
theorem dX2_comes_4 : decode cX2_comes 4 = .ok (.invokeinterface 95 1, 5) := by decide +kernel
theorem dX2_comes_9 : decode cX2_comes 9 = .ok (.bipush 10, 2) := dk_16 10 (dk_at dksX2_comes_0 9 rfl rfl)
theorem dX2_comes_11 : decode cX2_comes 11 = .ok (.if_icmp .ge 7, 3) := dk_162 0 7 (dk_at dksX2_comes_0 11 rfl rfl)
theorem dX2_comes_14 : decode cX2_comes 14 = .ok (.iconst 1, 1) := dk_4 (dk_at dksX2_comes_0 14 rfl rfl)
theorem dX2_comes_15 : decode cX2_comes 15 = .ok (.goto 4, 3) := dk_167 0 4 (dk_at dksX2_comes_0 15 rfl rfl)
theorem dX2_comes_18 : decode cX2_comes 18 = .ok (.iconst 0, 1) := dk_3 (dk_at dksX2_comes_0 18 rfl rfl)
theorem dX2_comes_19 : decode cX2_comes 19 = .ok (.iconst 1, 1) := dk_4 (dk_at dksX2_comes_0 19 rfl rfl)
theorem dX2_comes_20 : decode cX2_comes 20 = .ok (.bipush 10, 2) := dk_16 10 (dk_at dksX2_comes_0 20 rfl rfl)
theorem dX2_comes_22 : decode cX2_comes 22 = .ok (.invokestatic 99, 3) := dk_184 0 99 (dk_at dksX2_comes_1 0 rfl rfl)
theorem dX2_comes_25 : decode cX2_comes 25 = .ok (.aload_n 0, 1) := dk_42 (dk_at dksX2_comes_1 3 rfl rfl)
theorem dX2_comes_26 : decode cX2_comes 26 = .ok (.getfield 21, 3) := dk_180 0 21 (dk_at dksX2_comes_1 4 rfl rfl)
theorem dX2_comes_29 : decode cX2_comes 29 = .ok (.new 51, 3) := dk_187 0 51 (dk_at dksX2_comes_1 7 rfl rfl)
theorem dX2_comes_32 : decode cX2_comes 32 = .ok (.dup, 1) := dk_89 (dk_at dksX2_comes_1 10 rfl rfl)
theorem dX2_comes_33 : decode cX2_comes 33 = .ok (.aload_n 0, 1) := dk_42 (dk_at dksX2_comes_1 11 rfl rfl)
theorem dX2_comes_34 : decode cX2_comes 34 = .ok (.aload_n 0, 1) := dk_42 (dk_at dksX2_comes_1 12 rfl rfl)
theorem dX2_comes_35 : decode cX2_comes 35 = .ok (.getfield 21, 3) := dk_180 0 21 (dk_at dksX2_comes_1 13 rfl rfl)
theorem dX2_comes_38 : decode cX2_comes 38 = .ok (.invokeinterface 95 1, 5) := by decide +kernel
theorem dX2_comes_43 : decode cX2_comes 43 = .ok (.iload_n 1, 1) := dk_27 (dk_at dksX2_comes_1 21 rfl rfl)
theorem dX2_comes_44 : decode cX2_comes 44 = .ok (.iload_n 2, 1) := dk_28 (dk_at dksX2_comes_1 22 rfl rfl)
theorem dX2_comes_45 : decode cX2_comes 45 = .ok (.iload_n 3, 1) := dk_29 (dk_at dksX2_comes_1 23 rfl rfl)
theorem dX2_comes_46 : decode cX2_comes 46 = .ok (.invokespecial 103, 3) := dk_183 0 103 (dk_at dksX2_comes_2 0 rfl rfl)
theorem dX2_comes_49 : decode cX2_comes 49 = .ok (.invokeinterface 62 2, 5) := by decide +kernel
theorem dX2_comes_54 : decode cX2_comes 54 = .ok (.pop, 1) := dk_87 (dk_at dksX2_comes_2 8 rfl rfl)
theorem dX2_comes_55 : decode cX2_comes 55 = .ok (.aload_n 0, 1) := dk_42 (dk_at dksX2_comes_2 9 rfl rfl)
theorem dX2_comes_56 : decode cX2_comes 56 = .ok (.getfield 21, 3) := dk_180 0 21 (dk_at dksX2_comes_2 10 rfl rfl)
theorem dX2_comes_59 : decode cX2_comes 59 = .ok (.invokeinterface 95 1, 5) := by decide +kernel
theorem dX2_comes_64 : decode cX2_comes 64 = .ok (.iconst 1, 1) := dk_4 (dk_at dksX2_comes_2 18 rfl rfl)
theorem dX2_comes_65 : decode cX2_comes 65 = .ok (.isub, 1) := dk_100 (dk_at dksX2_comes_2 19 rfl rfl)
theorem dX2_comes_66 : decode cX2_comes 66 = .ok (.ireturn, 1) := dk_172 (dk_at dksX2_comes_2 20 rfl rfl)
abbrev cX2_trader : ByteArray := prog_13_method_4_code
def yX2_trader : MethodName := ⟨RX2, "trader", "(I)LBrassInspector$Round$Trader;"⟩
def dkwX2_trader_0 : List UInt8 := [42, 180, 0, 21, 27, 185, 0, 82, 2, 0, 192, 0, 51, 176]
abbrev dktX2_trader_0 : List UInt8 := dkwX2_trader_0 ++ []
theorem dksX2_trader_0 : cX2_trader.data.toList.drop 0 = dktX2_trader_0 := by decide +kernel
theorem dX2_trader_0 : decode cX2_trader 0 = .ok (.aload_n 0, 1) := dk_42 (dk_at dksX2_trader_0 0 rfl rfl)
theorem dX2_trader_1 : decode cX2_trader 1 = .ok (.getfield 21, 3) := dk_180 0 21 (dk_at dksX2_trader_0 1 rfl rfl)
theorem dX2_trader_4 : decode cX2_trader 4 = .ok (.iload_n 1, 1) := dk_27 (dk_at dksX2_trader_0 4 rfl rfl)
theorem dX2_trader_5 : decode cX2_trader 5 = .ok (.invokeinterface 82 2, 5) := by decide +kernel
theorem dX2_trader_10 : decode cX2_trader 10 = .ok (.checkcast 51, 3) := dk_192 0 51 (dk_at dksX2_trader_0 10 rfl rfl)
theorem dX2_trader_13 : decode cX2_trader 13 = .ok (.areturn, 1) := dk_176 (dk_at dksX2_trader_0 13 rfl rfl)
abbrev cX2_cast : ByteArray := prog_13_method_17_code
def yX2_cast : MethodName := ⟨RX2, "cast", "(I)I"⟩
def dkwX2_cast_2 : List UInt8 := [185, 0, 62, 2, 0, 87, 42, 180, 0, 25, 185, 0, 95, 1, 0, 4, 100, 172]
abbrev dktX2_cast_2 : List UInt8 := dkwX2_cast_2 ++ []
def dkwX2_cast_1 : List UInt8 := [180, 0, 25, 187, 0, 66, 89, 42, 180, 0, 25, 185, 0, 95, 1, 0, 27, 183, 0, 106]
abbrev dktX2_cast_1 : List UInt8 := dkwX2_cast_1 ++ dktX2_cast_2
def dkwX2_cast_0 : List UInt8 := [42, 180, 0, 25, 185, 0, 95, 1, 0, 7, 162, 0, 7, 4, 167, 0, 4, 3, 4, 7, 184, 0, 99, 42]
abbrev dktX2_cast_0 : List UInt8 := dkwX2_cast_0 ++ dktX2_cast_1
theorem dksX2_cast_0 : cX2_cast.data.toList.drop 0 = dktX2_cast_0 := by decide +kernel
theorem dksX2_cast_1 : cX2_cast.data.toList.drop 24 = dktX2_cast_1 := dk_seg dksX2_cast_0 24 rfl rfl
theorem dksX2_cast_2 : cX2_cast.data.toList.drop 44 = dktX2_cast_2 := dk_seg dksX2_cast_1 20 rfl rfl
theorem dX2_cast_0 : decode cX2_cast 0 = .ok (.aload_n 0, 1) := dk_42 (dk_at dksX2_cast_0 0 rfl rfl)
theorem dX2_cast_1 : decode cX2_cast 1 = .ok (.getfield 25, 3) := dk_180 0 25 (dk_at dksX2_cast_0 1 rfl rfl)
theorem dX2_cast_4 : decode cX2_cast 4 = .ok (.invokeinterface 95 1, 5) := by decide +kernel
theorem dX2_cast_9 : decode cX2_cast 9 = .ok (.iconst 4, 1) := dk_7 (dk_at dksX2_cast_0 9 rfl rfl)
theorem dX2_cast_10 : decode cX2_cast 10 = .ok (.if_icmp .ge 7, 3) := dk_162 0 7 (dk_at dksX2_cast_0 10 rfl rfl)
theorem dX2_cast_13 : decode cX2_cast 13 = .ok (.iconst 1, 1) := dk_4 (dk_at dksX2_cast_0 13 rfl rfl)
theorem dX2_cast_14 : decode cX2_cast 14 = .ok (.goto 4, 3) := dk_167 0 4 (dk_at dksX2_cast_0 14 rfl rfl)
theorem dX2_cast_17 : decode cX2_cast 17 = .ok (.iconst 0, 1) := dk_3 (dk_at dksX2_cast_0 17 rfl rfl)
theorem dX2_cast_18 : decode cX2_cast 18 = .ok (.iconst 1, 1) := dk_4 (dk_at dksX2_cast_0 18 rfl rfl)
theorem dX2_cast_19 : decode cX2_cast 19 = .ok (.iconst 4, 1) := dk_7 (dk_at dksX2_cast_0 19 rfl rfl)
theorem dX2_cast_20 : decode cX2_cast 20 = .ok (.invokestatic 99, 3) := dk_184 0 99 (dk_at dksX2_cast_0 20 rfl rfl)
theorem dX2_cast_23 : decode cX2_cast 23 = .ok (.aload_n 0, 1) := dk_42 (dk_at dksX2_cast_0 23 rfl rfl)
theorem dX2_cast_24 : decode cX2_cast 24 = .ok (.getfield 25, 3) := dk_180 0 25 (dk_at dksX2_cast_1 0 rfl rfl)
theorem dX2_cast_27 : decode cX2_cast 27 = .ok (.new 66, 3) := dk_187 0 66 (dk_at dksX2_cast_1 3 rfl rfl)
theorem dX2_cast_30 : decode cX2_cast 30 = .ok (.dup, 1) := dk_89 (dk_at dksX2_cast_1 6 rfl rfl)
theorem dX2_cast_31 : decode cX2_cast 31 = .ok (.aload_n 0, 1) := dk_42 (dk_at dksX2_cast_1 7 rfl rfl)
theorem dX2_cast_32 : decode cX2_cast 32 = .ok (.getfield 25, 3) := dk_180 0 25 (dk_at dksX2_cast_1 8 rfl rfl)
theorem dX2_cast_35 : decode cX2_cast 35 = .ok (.invokeinterface 95 1, 5) := by decide +kernel
theorem dX2_cast_40 : decode cX2_cast 40 = .ok (.iload_n 1, 1) := dk_27 (dk_at dksX2_cast_1 16 rfl rfl)
theorem dX2_cast_41 : decode cX2_cast 41 = .ok (.invokespecial 106, 3) := dk_183 0 106 (dk_at dksX2_cast_1 17 rfl rfl)
theorem dX2_cast_44 : decode cX2_cast 44 = .ok (.invokeinterface 62 2, 5) := by decide +kernel
theorem dX2_cast_49 : decode cX2_cast 49 = .ok (.pop, 1) := dk_87 (dk_at dksX2_cast_2 5 rfl rfl)
theorem dX2_cast_50 : decode cX2_cast 50 = .ok (.aload_n 0, 1) := dk_42 (dk_at dksX2_cast_2 6 rfl rfl)
theorem dX2_cast_51 : decode cX2_cast 51 = .ok (.getfield 25, 3) := dk_180 0 25 (dk_at dksX2_cast_2 7 rfl rfl)
theorem dX2_cast_54 : decode cX2_cast 54 = .ok (.invokeinterface 95 1, 5) := by decide +kernel
theorem dX2_cast_59 : decode cX2_cast 59 = .ok (.iconst 1, 1) := dk_4 (dk_at dksX2_cast_2 15 rfl rfl)
theorem dX2_cast_60 : decode cX2_cast 60 = .ok (.isub, 1) := dk_100 (dk_at dksX2_cast_2 16 rfl rfl)
theorem dX2_cast_61 : decode cX2_cast 61 = .ok (.ireturn, 1) := dk_172 (dk_at dksX2_cast_2 17 rfl rfl)
abbrev cX2_polish : ByteArray := prog_13_method_18_code
def yX2_polish : MethodName := ⟨RX2, "polish", "(I)I"⟩
def dkwX2_polish_1 : List UInt8 := [182, 0, 109, 182, 0, 116, 172]
abbrev dktX2_polish_1 : List UInt8 := dkwX2_polish_1 ++ []
def dkwX2_polish_0 : List UInt8 := [42, 27, 182, 0, 109, 182, 0, 113, 158, 0, 7, 4, 167, 0, 4, 3, 16, 10, 27, 184, 0, 99, 42, 27]
abbrev dktX2_polish_0 : List UInt8 := dkwX2_polish_0 ++ dktX2_polish_1
theorem dksX2_polish_0 : cX2_polish.data.toList.drop 0 = dktX2_polish_0 := by decide +kernel
theorem dksX2_polish_1 : cX2_polish.data.toList.drop 24 = dktX2_polish_1 := dk_seg dksX2_polish_0 24 rfl rfl
theorem dX2_polish_0 : decode cX2_polish 0 = .ok (.aload_n 0, 1) := dk_42 (dk_at dksX2_polish_0 0 rfl rfl)
theorem dX2_polish_1 : decode cX2_polish 1 = .ok (.iload_n 1, 1) := dk_27 (dk_at dksX2_polish_0 1 rfl rfl)
theorem dX2_polish_2 : decode cX2_polish 2 = .ok (.invokevirtual 109, 3) := dk_182 0 109 (dk_at dksX2_polish_0 2 rfl rfl)
theorem dX2_polish_5 : decode cX2_polish 5 = .ok (.invokevirtual 113, 3) := dk_182 0 113 (dk_at dksX2_polish_0 5 rfl rfl)
theorem dX2_polish_8 : decode cX2_polish 8 = .ok (.ifCond .le 7, 3) := dk_158 0 7 (dk_at dksX2_polish_0 8 rfl rfl)
theorem dX2_polish_11 : decode cX2_polish 11 = .ok (.iconst 1, 1) := dk_4 (dk_at dksX2_polish_0 11 rfl rfl)
theorem dX2_polish_12 : decode cX2_polish 12 = .ok (.goto 4, 3) := dk_167 0 4 (dk_at dksX2_polish_0 12 rfl rfl)
theorem dX2_polish_15 : decode cX2_polish 15 = .ok (.iconst 0, 1) := dk_3 (dk_at dksX2_polish_0 15 rfl rfl)
theorem dX2_polish_16 : decode cX2_polish 16 = .ok (.bipush 10, 2) := dk_16 10 (dk_at dksX2_polish_0 16 rfl rfl)
theorem dX2_polish_18 : decode cX2_polish 18 = .ok (.iload_n 1, 1) := dk_27 (dk_at dksX2_polish_0 18 rfl rfl)
theorem dX2_polish_19 : decode cX2_polish 19 = .ok (.invokestatic 99, 3) := dk_184 0 99 (dk_at dksX2_polish_0 19 rfl rfl)
theorem dX2_polish_22 : decode cX2_polish 22 = .ok (.aload_n 0, 1) := dk_42 (dk_at dksX2_polish_0 22 rfl rfl)
theorem dX2_polish_23 : decode cX2_polish 23 = .ok (.iload_n 1, 1) := dk_27 (dk_at dksX2_polish_0 23 rfl rfl)
theorem dX2_polish_24 : decode cX2_polish 24 = .ok (.invokevirtual 109, 3) := dk_182 0 109 (dk_at dksX2_polish_1 0 rfl rfl)
theorem dX2_polish_27 : decode cX2_polish 27 = .ok (.invokevirtual 116, 3) := dk_182 0 116 (dk_at dksX2_polish_1 3 rfl rfl)
theorem dX2_polish_30 : decode cX2_polish 30 = .ok (.ireturn, 1) := dk_172 (dk_at dksX2_polish_1 6 rfl rfl)
abbrev cX2_weight : ByteArray := prog_13_method_7_code
def yX2_weight : MethodName := ⟨RX2, "weight", "(I)LBrassInspector$Brass;"⟩
def dkwX2_weight_0 : List UInt8 := [42, 180, 0, 25, 27, 185, 0, 82, 2, 0, 192, 0, 66, 176]
abbrev dktX2_weight_0 : List UInt8 := dkwX2_weight_0 ++ []
theorem dksX2_weight_0 : cX2_weight.data.toList.drop 0 = dktX2_weight_0 := by decide +kernel
theorem dX2_weight_0 : decode cX2_weight 0 = .ok (.aload_n 0, 1) := dk_42 (dk_at dksX2_weight_0 0 rfl rfl)
theorem dX2_weight_1 : decode cX2_weight 1 = .ok (.getfield 25, 3) := dk_180 0 25 (dk_at dksX2_weight_0 1 rfl rfl)
theorem dX2_weight_4 : decode cX2_weight 4 = .ok (.iload_n 1, 1) := dk_27 (dk_at dksX2_weight_0 4 rfl rfl)
theorem dX2_weight_5 : decode cX2_weight 5 = .ok (.invokeinterface 82 2, 5) := by decide +kernel
theorem dX2_weight_10 : decode cX2_weight 10 = .ok (.checkcast 66, 3) := dk_192 0 66 (dk_at dksX2_weight_0 10 rfl rfl)
theorem dX2_weight_13 : decode cX2_weight 13 = .ok (.areturn, 1) := dk_176 (dk_at dksX2_weight_0 13 rfl rfl)
abbrev cX2_pass : ByteArray := prog_13_method_26_code
def yX2_pass : MethodName := ⟨RX2, "pass", "(I)I"⟩
def dkwX2_pass_0 : List UInt8 := [3, 61, 3, 62, 29, 27, 162, 0, 16, 28, 42, 182, 0, 207, 96, 61, 132, 3, 1, 167, 255, 241, 28, 172]
abbrev dktX2_pass_0 : List UInt8 := dkwX2_pass_0 ++ []
theorem dksX2_pass_0 : cX2_pass.data.toList.drop 0 = dktX2_pass_0 := by decide +kernel
theorem dX2_pass_0 : decode cX2_pass 0 = .ok (.iconst 0, 1) := dk_3 (dk_at dksX2_pass_0 0 rfl rfl)
theorem dX2_pass_1 : decode cX2_pass 1 = .ok (.istore_n 2, 1) := dk_61 (dk_at dksX2_pass_0 1 rfl rfl)
theorem dX2_pass_2 : decode cX2_pass 2 = .ok (.iconst 0, 1) := dk_3 (dk_at dksX2_pass_0 2 rfl rfl)
theorem dX2_pass_3 : decode cX2_pass 3 = .ok (.istore_n 3, 1) := dk_62 (dk_at dksX2_pass_0 3 rfl rfl)
theorem dX2_pass_4 : decode cX2_pass 4 = .ok (.iload_n 3, 1) := dk_29 (dk_at dksX2_pass_0 4 rfl rfl)
theorem dX2_pass_5 : decode cX2_pass 5 = .ok (.iload_n 1, 1) := dk_27 (dk_at dksX2_pass_0 5 rfl rfl)
theorem dX2_pass_6 : decode cX2_pass 6 = .ok (.if_icmp .ge 16, 3) := dk_162 0 16 (dk_at dksX2_pass_0 6 rfl rfl)
theorem dX2_pass_9 : decode cX2_pass 9 = .ok (.iload_n 2, 1) := dk_28 (dk_at dksX2_pass_0 9 rfl rfl)
theorem dX2_pass_10 : decode cX2_pass 10 = .ok (.aload_n 0, 1) := dk_42 (dk_at dksX2_pass_0 10 rfl rfl)
theorem dX2_pass_11 : decode cX2_pass 11 = .ok (.invokevirtual 207, 3) := dk_182 0 207 (dk_at dksX2_pass_0 11 rfl rfl)
theorem dX2_pass_14 : decode cX2_pass 14 = .ok (.iadd, 1) := dk_96 (dk_at dksX2_pass_0 14 rfl rfl)
theorem dX2_pass_15 : decode cX2_pass 15 = .ok (.istore_n 2, 1) := dk_61 (dk_at dksX2_pass_0 15 rfl rfl)
theorem dX2_pass_16 : decode cX2_pass 16 = .ok (.iinc 3 1, 3) := dk_132 3 1 (dk_at dksX2_pass_0 16 rfl rfl)
theorem dX2_pass_19 : decode cX2_pass 19 = .ok (.goto (-15), 3) := dk_167 255 241 (dk_at dksX2_pass_0 19 rfl rfl)
theorem dX2_pass_22 : decode cX2_pass 22 = .ok (.iload_n 2, 1) := dk_28 (dk_at dksX2_pass_0 22 rfl rfl)
theorem dX2_pass_23 : decode cX2_pass 23 = .ok (.ireturn, 1) := dk_172 (dk_at dksX2_pass_0 23 rfl rfl)
abbrev cX2_dayGoesBy : ByteArray := prog_13_method_25_code
def yX2_dayGoesBy : MethodName := ⟨RX2, "dayGoesBy", "()I"⟩
def dkwX2_dayGoesBy_6 : List UInt8 := [181, 0, 72, 42, 89, 180, 0, 79, 27, 96, 181, 0, 79, 27, 172]
abbrev dktX2_dayGoesBy_6 : List UInt8 := dkwX2_dayGoesBy_6 ++ []
def dkwX2_dayGoesBy_5 : List UInt8 := [185, 0, 47, 1, 0, 192, 0, 51, 78, 45, 182, 0, 204, 167, 255, 233, 42, 89, 180, 0, 72, 4, 96]
abbrev dktX2_dayGoesBy_5 : List UInt8 := dkwX2_dayGoesBy_5 ++ dktX2_dayGoesBy_6
def dkwX2_dayGoesBy_4 : List UInt8 := [167, 255, 233, 42, 180, 0, 21, 185, 0, 35, 1, 0, 77, 44, 185, 0, 41, 1, 0, 153, 0, 20, 44]
abbrev dktX2_dayGoesBy_4 : List UInt8 := dkwX2_dayGoesBy_4 ++ dktX2_dayGoesBy_5
def dkwX2_dayGoesBy_3 : List UInt8 := [185, 0, 41, 1, 0, 153, 0, 20, 44, 185, 0, 47, 1, 0, 192, 0, 51, 78, 45, 182, 0, 201]
abbrev dktX2_dayGoesBy_3 : List UInt8 := dkwX2_dayGoesBy_3 ++ dktX2_dayGoesBy_4
def dkwX2_dayGoesBy_2 : List UInt8 := [167, 0, 7, 45, 182, 0, 198, 96, 60, 167, 255, 219, 42, 180, 0, 21, 185, 0, 35, 1, 0, 77, 44]
abbrev dktX2_dayGoesBy_2 : List UInt8 := dkwX2_dayGoesBy_2 ++ dktX2_dayGoesBy_3
def dkwX2_dayGoesBy_1 : List UInt8 := [153, 0, 34, 44, 185, 0, 47, 1, 0, 192, 0, 51, 78, 27, 45, 182, 0, 195, 153, 0, 7, 3]
abbrev dktX2_dayGoesBy_1 : List UInt8 := dkwX2_dayGoesBy_1 ++ dktX2_dayGoesBy_2
def dkwX2_dayGoesBy_0 : List UInt8 := [3, 60, 42, 42, 182, 0, 123, 182, 0, 126, 185, 0, 130, 1, 0, 77, 44, 185, 0, 41, 1, 0]
abbrev dktX2_dayGoesBy_0 : List UInt8 := dkwX2_dayGoesBy_0 ++ dktX2_dayGoesBy_1
theorem dksX2_dayGoesBy_0 : cX2_dayGoesBy.data.toList.drop 0 = dktX2_dayGoesBy_0 := by decide +kernel
theorem dksX2_dayGoesBy_1 : cX2_dayGoesBy.data.toList.drop 22 = dktX2_dayGoesBy_1 := dk_seg dksX2_dayGoesBy_0 22 rfl rfl
theorem dksX2_dayGoesBy_2 : cX2_dayGoesBy.data.toList.drop 44 = dktX2_dayGoesBy_2 := dk_seg dksX2_dayGoesBy_1 22 rfl rfl
theorem dksX2_dayGoesBy_3 : cX2_dayGoesBy.data.toList.drop 67 = dktX2_dayGoesBy_3 := dk_seg dksX2_dayGoesBy_2 23 rfl rfl
theorem dksX2_dayGoesBy_4 : cX2_dayGoesBy.data.toList.drop 89 = dktX2_dayGoesBy_4 := dk_seg dksX2_dayGoesBy_3 22 rfl rfl
theorem dksX2_dayGoesBy_5 : cX2_dayGoesBy.data.toList.drop 112 = dktX2_dayGoesBy_5 := dk_seg dksX2_dayGoesBy_4 23 rfl rfl
theorem dksX2_dayGoesBy_6 : cX2_dayGoesBy.data.toList.drop 135 = dktX2_dayGoesBy_6 := dk_seg dksX2_dayGoesBy_5 23 rfl rfl
theorem dX2_dayGoesBy_0 : decode cX2_dayGoesBy 0 = .ok (.iconst 0, 1) := dk_3 (dk_at dksX2_dayGoesBy_0 0 rfl rfl)
theorem dX2_dayGoesBy_1 : decode cX2_dayGoesBy 1 = .ok (.istore_n 1, 1) := dk_60 (dk_at dksX2_dayGoesBy_0 1 rfl rfl)
theorem dX2_dayGoesBy_2 : decode cX2_dayGoesBy 2 = .ok (.aload_n 0, 1) := dk_42 (dk_at dksX2_dayGoesBy_0 2 rfl rfl)
theorem dX2_dayGoesBy_3 : decode cX2_dayGoesBy 3 = .ok (.aload_n 0, 1) := dk_42 (dk_at dksX2_dayGoesBy_0 3 rfl rfl)
theorem dX2_dayGoesBy_4 : decode cX2_dayGoesBy 4 = .ok (.invokevirtual 123, 3) := dk_182 0 123 (dk_at dksX2_dayGoesBy_0 4 rfl rfl)
theorem dX2_dayGoesBy_7 : decode cX2_dayGoesBy 7 = .ok (.invokevirtual 126, 3) := dk_182 0 126 (dk_at dksX2_dayGoesBy_0 7 rfl rfl)
theorem dX2_dayGoesBy_10 : decode cX2_dayGoesBy 10 = .ok (.invokeinterface 130 1, 5) := by decide +kernel
theorem dX2_dayGoesBy_15 : decode cX2_dayGoesBy 15 = .ok (.astore_n 2, 1) := dk_77 (dk_at dksX2_dayGoesBy_0 15 rfl rfl)
theorem dX2_dayGoesBy_16 : decode cX2_dayGoesBy 16 = .ok (.aload_n 2, 1) := dk_44 (dk_at dksX2_dayGoesBy_0 16 rfl rfl)
theorem dX2_dayGoesBy_17 : decode cX2_dayGoesBy 17 = .ok (.invokeinterface 41 1, 5) := by decide +kernel
theorem dX2_dayGoesBy_22 : decode cX2_dayGoesBy 22 = .ok (.ifCond .eq 34, 3) := dk_153 0 34 (dk_at dksX2_dayGoesBy_1 0 rfl rfl)
theorem dX2_dayGoesBy_25 : decode cX2_dayGoesBy 25 = .ok (.aload_n 2, 1) := dk_44 (dk_at dksX2_dayGoesBy_1 3 rfl rfl)
theorem dX2_dayGoesBy_26 : decode cX2_dayGoesBy 26 = .ok (.invokeinterface 47 1, 5) := by decide +kernel
theorem dX2_dayGoesBy_31 : decode cX2_dayGoesBy 31 = .ok (.checkcast 51, 3) := dk_192 0 51 (dk_at dksX2_dayGoesBy_1 9 rfl rfl)
theorem dX2_dayGoesBy_34 : decode cX2_dayGoesBy 34 = .ok (.astore_n 3, 1) := dk_78 (dk_at dksX2_dayGoesBy_1 12 rfl rfl)
theorem dX2_dayGoesBy_35 : decode cX2_dayGoesBy 35 = .ok (.iload_n 1, 1) := dk_27 (dk_at dksX2_dayGoesBy_1 13 rfl rfl)
theorem dX2_dayGoesBy_36 : decode cX2_dayGoesBy 36 = .ok (.aload_n 3, 1) := dk_45 (dk_at dksX2_dayGoesBy_1 14 rfl rfl)
theorem dX2_dayGoesBy_37 : decode cX2_dayGoesBy 37 = .ok (.invokevirtual 195, 3) := dk_182 0 195 (dk_at dksX2_dayGoesBy_1 15 rfl rfl)
theorem dX2_dayGoesBy_40 : decode cX2_dayGoesBy 40 = .ok (.ifCond .eq 7, 3) := dk_153 0 7 (dk_at dksX2_dayGoesBy_1 18 rfl rfl)
theorem dX2_dayGoesBy_43 : decode cX2_dayGoesBy 43 = .ok (.iconst 0, 1) := dk_3 (dk_at dksX2_dayGoesBy_1 21 rfl rfl)
theorem dX2_dayGoesBy_44 : decode cX2_dayGoesBy 44 = .ok (.goto 7, 3) := dk_167 0 7 (dk_at dksX2_dayGoesBy_2 0 rfl rfl)
theorem dX2_dayGoesBy_47 : decode cX2_dayGoesBy 47 = .ok (.aload_n 3, 1) := dk_45 (dk_at dksX2_dayGoesBy_2 3 rfl rfl)
theorem dX2_dayGoesBy_48 : decode cX2_dayGoesBy 48 = .ok (.invokevirtual 198, 3) := dk_182 0 198 (dk_at dksX2_dayGoesBy_2 4 rfl rfl)
theorem dX2_dayGoesBy_51 : decode cX2_dayGoesBy 51 = .ok (.iadd, 1) := dk_96 (dk_at dksX2_dayGoesBy_2 7 rfl rfl)
theorem dX2_dayGoesBy_52 : decode cX2_dayGoesBy 52 = .ok (.istore_n 1, 1) := dk_60 (dk_at dksX2_dayGoesBy_2 8 rfl rfl)
theorem dX2_dayGoesBy_53 : decode cX2_dayGoesBy 53 = .ok (.goto (-37), 3) := dk_167 255 219 (dk_at dksX2_dayGoesBy_2 9 rfl rfl)
theorem dX2_dayGoesBy_56 : decode cX2_dayGoesBy 56 = .ok (.aload_n 0, 1) := dk_42 (dk_at dksX2_dayGoesBy_2 12 rfl rfl)
theorem dX2_dayGoesBy_57 : decode cX2_dayGoesBy 57 = .ok (.getfield 21, 3) := dk_180 0 21 (dk_at dksX2_dayGoesBy_2 13 rfl rfl)
theorem dX2_dayGoesBy_60 : decode cX2_dayGoesBy 60 = .ok (.invokeinterface 35 1, 5) := by decide +kernel
theorem dX2_dayGoesBy_65 : decode cX2_dayGoesBy 65 = .ok (.astore_n 2, 1) := dk_77 (dk_at dksX2_dayGoesBy_2 21 rfl rfl)
theorem dX2_dayGoesBy_66 : decode cX2_dayGoesBy 66 = .ok (.aload_n 2, 1) := dk_44 (dk_at dksX2_dayGoesBy_2 22 rfl rfl)
theorem dX2_dayGoesBy_67 : decode cX2_dayGoesBy 67 = .ok (.invokeinterface 41 1, 5) := by decide +kernel
theorem dX2_dayGoesBy_72 : decode cX2_dayGoesBy 72 = .ok (.ifCond .eq 20, 3) := dk_153 0 20 (dk_at dksX2_dayGoesBy_3 5 rfl rfl)
theorem dX2_dayGoesBy_75 : decode cX2_dayGoesBy 75 = .ok (.aload_n 2, 1) := dk_44 (dk_at dksX2_dayGoesBy_3 8 rfl rfl)
theorem dX2_dayGoesBy_76 : decode cX2_dayGoesBy 76 = .ok (.invokeinterface 47 1, 5) := by decide +kernel
theorem dX2_dayGoesBy_81 : decode cX2_dayGoesBy 81 = .ok (.checkcast 51, 3) := dk_192 0 51 (dk_at dksX2_dayGoesBy_3 14 rfl rfl)
theorem dX2_dayGoesBy_84 : decode cX2_dayGoesBy 84 = .ok (.astore_n 3, 1) := dk_78 (dk_at dksX2_dayGoesBy_3 17 rfl rfl)
theorem dX2_dayGoesBy_85 : decode cX2_dayGoesBy 85 = .ok (.aload_n 3, 1) := dk_45 (dk_at dksX2_dayGoesBy_3 18 rfl rfl)
theorem dX2_dayGoesBy_86 : decode cX2_dayGoesBy 86 = .ok (.invokevirtual 201, 3) := dk_182 0 201 (dk_at dksX2_dayGoesBy_3 19 rfl rfl)
theorem dX2_dayGoesBy_89 : decode cX2_dayGoesBy 89 = .ok (.goto (-23), 3) := dk_167 255 233 (dk_at dksX2_dayGoesBy_4 0 rfl rfl)
theorem dX2_dayGoesBy_92 : decode cX2_dayGoesBy 92 = .ok (.aload_n 0, 1) := dk_42 (dk_at dksX2_dayGoesBy_4 3 rfl rfl)
theorem dX2_dayGoesBy_93 : decode cX2_dayGoesBy 93 = .ok (.getfield 21, 3) := dk_180 0 21 (dk_at dksX2_dayGoesBy_4 4 rfl rfl)
theorem dX2_dayGoesBy_96 : decode cX2_dayGoesBy 96 = .ok (.invokeinterface 35 1, 5) := by decide +kernel
theorem dX2_dayGoesBy_101 : decode cX2_dayGoesBy 101 = .ok (.astore_n 2, 1) := dk_77 (dk_at dksX2_dayGoesBy_4 12 rfl rfl)
theorem dX2_dayGoesBy_102 : decode cX2_dayGoesBy 102 = .ok (.aload_n 2, 1) := dk_44 (dk_at dksX2_dayGoesBy_4 13 rfl rfl)
theorem dX2_dayGoesBy_103 : decode cX2_dayGoesBy 103 = .ok (.invokeinterface 41 1, 5) := by decide +kernel
theorem dX2_dayGoesBy_108 : decode cX2_dayGoesBy 108 = .ok (.ifCond .eq 20, 3) := dk_153 0 20 (dk_at dksX2_dayGoesBy_4 19 rfl rfl)
theorem dX2_dayGoesBy_111 : decode cX2_dayGoesBy 111 = .ok (.aload_n 2, 1) := dk_44 (dk_at dksX2_dayGoesBy_4 22 rfl rfl)
theorem dX2_dayGoesBy_112 : decode cX2_dayGoesBy 112 = .ok (.invokeinterface 47 1, 5) := by decide +kernel
theorem dX2_dayGoesBy_117 : decode cX2_dayGoesBy 117 = .ok (.checkcast 51, 3) := dk_192 0 51 (dk_at dksX2_dayGoesBy_5 5 rfl rfl)
theorem dX2_dayGoesBy_120 : decode cX2_dayGoesBy 120 = .ok (.astore_n 3, 1) := dk_78 (dk_at dksX2_dayGoesBy_5 8 rfl rfl)
theorem dX2_dayGoesBy_121 : decode cX2_dayGoesBy 121 = .ok (.aload_n 3, 1) := dk_45 (dk_at dksX2_dayGoesBy_5 9 rfl rfl)
theorem dX2_dayGoesBy_122 : decode cX2_dayGoesBy 122 = .ok (.invokevirtual 204, 3) := dk_182 0 204 (dk_at dksX2_dayGoesBy_5 10 rfl rfl)
theorem dX2_dayGoesBy_125 : decode cX2_dayGoesBy 125 = .ok (.goto (-23), 3) := dk_167 255 233 (dk_at dksX2_dayGoesBy_5 13 rfl rfl)
theorem dX2_dayGoesBy_128 : decode cX2_dayGoesBy 128 = .ok (.aload_n 0, 1) := dk_42 (dk_at dksX2_dayGoesBy_5 16 rfl rfl)
theorem dX2_dayGoesBy_129 : decode cX2_dayGoesBy 129 = .ok (.dup, 1) := dk_89 (dk_at dksX2_dayGoesBy_5 17 rfl rfl)
theorem dX2_dayGoesBy_130 : decode cX2_dayGoesBy 130 = .ok (.getfield 72, 3) := dk_180 0 72 (dk_at dksX2_dayGoesBy_5 18 rfl rfl)
theorem dX2_dayGoesBy_133 : decode cX2_dayGoesBy 133 = .ok (.iconst 1, 1) := dk_4 (dk_at dksX2_dayGoesBy_5 21 rfl rfl)
theorem dX2_dayGoesBy_134 : decode cX2_dayGoesBy 134 = .ok (.iadd, 1) := dk_96 (dk_at dksX2_dayGoesBy_5 22 rfl rfl)
theorem dX2_dayGoesBy_135 : decode cX2_dayGoesBy 135 = .ok (.putfield 72, 3) := dk_181 0 72 (dk_at dksX2_dayGoesBy_6 0 rfl rfl)
theorem dX2_dayGoesBy_138 : decode cX2_dayGoesBy 138 = .ok (.aload_n 0, 1) := dk_42 (dk_at dksX2_dayGoesBy_6 3 rfl rfl)
theorem dX2_dayGoesBy_139 : decode cX2_dayGoesBy 139 = .ok (.dup, 1) := dk_89 (dk_at dksX2_dayGoesBy_6 4 rfl rfl)
theorem dX2_dayGoesBy_140 : decode cX2_dayGoesBy 140 = .ok (.getfield 79, 3) := dk_180 0 79 (dk_at dksX2_dayGoesBy_6 5 rfl rfl)
theorem dX2_dayGoesBy_143 : decode cX2_dayGoesBy 143 = .ok (.iload_n 1, 1) := dk_27 (dk_at dksX2_dayGoesBy_6 8 rfl rfl)
theorem dX2_dayGoesBy_144 : decode cX2_dayGoesBy 144 = .ok (.iadd, 1) := dk_96 (dk_at dksX2_dayGoesBy_6 9 rfl rfl)
theorem dX2_dayGoesBy_145 : decode cX2_dayGoesBy 145 = .ok (.putfield 79, 3) := dk_181 0 79 (dk_at dksX2_dayGoesBy_6 10 rfl rfl)
theorem dX2_dayGoesBy_148 : decode cX2_dayGoesBy 148 = .ok (.iload_n 1, 1) := dk_27 (dk_at dksX2_dayGoesBy_6 13 rfl rfl)
theorem dX2_dayGoesBy_149 : decode cX2_dayGoesBy 149 = .ok (.ireturn, 1) := dk_172 (dk_at dksX2_dayGoesBy_6 14 rfl rfl)
abbrev cX2_fairNow : ByteArray := prog_13_method_12_code
def yX2_fairNow : MethodName := ⟨RX2, "fairNow", "()I"⟩
def dkwX2_fairNow_0 : List UInt8 := [42, 180, 0, 72, 8, 112, 172]
abbrev dktX2_fairNow_0 : List UInt8 := dkwX2_fairNow_0 ++ []
theorem dksX2_fairNow_0 : cX2_fairNow.data.toList.drop 0 = dktX2_fairNow_0 := by decide +kernel
theorem dX2_fairNow_0 : decode cX2_fairNow 0 = .ok (.aload_n 0, 1) := dk_42 (dk_at dksX2_fairNow_0 0 rfl rfl)
theorem dX2_fairNow_1 : decode cX2_fairNow 1 = .ok (.getfield 72, 3) := dk_180 0 72 (dk_at dksX2_fairNow_0 1 rfl rfl)
theorem dX2_fairNow_4 : decode cX2_fairNow 4 = .ok (.iconst 5, 1) := dk_8 (dk_at dksX2_fairNow_0 4 rfl rfl)
theorem dX2_fairNow_5 : decode cX2_fairNow 5 = .ok (.irem, 1) := dk_112 (dk_at dksX2_fairNow_0 5 rfl rfl)
theorem dX2_fairNow_6 : decode cX2_fairNow 6 = .ok (.ireturn, 1) := dk_172 (dk_at dksX2_fairNow_0 6 rfl rfl)
abbrev cX2_of : ByteArray := prog_13_method_5_code
def yX2_of : MethodName := ⟨RX2, "of", "(I)Ljava/lang/Iterable;"⟩
def dkwX2_of_0 : List UInt8 := [187, 0, 86, 89, 42, 27, 183, 0, 88, 176]
abbrev dktX2_of_0 : List UInt8 := dkwX2_of_0 ++ []
theorem dksX2_of_0 : cX2_of.data.toList.drop 0 = dktX2_of_0 := by decide +kernel
theorem dX2_of_0 : decode cX2_of 0 = .ok (.new 86, 3) := dk_187 0 86 (dk_at dksX2_of_0 0 rfl rfl)
theorem dX2_of_3 : decode cX2_of 3 = .ok (.dup, 1) := dk_89 (dk_at dksX2_of_0 3 rfl rfl)
theorem dX2_of_4 : decode cX2_of 4 = .ok (.aload_n 0, 1) := dk_42 (dk_at dksX2_of_0 4 rfl rfl)
theorem dX2_of_5 : decode cX2_of 5 = .ok (.iload_n 1, 1) := dk_27 (dk_at dksX2_of_0 5 rfl rfl)
theorem dX2_of_6 : decode cX2_of 6 = .ok (.invokespecial 88, 3) := dk_183 0 88 (dk_at dksX2_of_0 6 rfl rfl)
theorem dX2_of_9 : decode cX2_of 9 = .ok (.areturn, 1) := dk_176 (dk_at dksX2_of_0 9 rfl rfl)
abbrev cX2_traders : ByteArray := prog_13_method_3_code
def yX2_traders : MethodName := ⟨RX2, "traders", "()Ljava/util/List;"⟩
theorem dX2_traders_0 : decode cX2_traders 0 = .ok (.aload_n 0, 1) := by decide +kernel
theorem dX2_traders_1 : decode cX2_traders 1 = .ok (.getfield 21, 3) := by decide +kernel
theorem dX2_traders_4 : decode cX2_traders 4 = .ok (.areturn, 1) := by decide +kernel
abbrev cX2_weights : ByteArray := prog_13_method_6_code
def yX2_weights : MethodName := ⟨RX2, "weights", "()Ljava/util/List;"⟩
theorem dX2_weights_0 : decode cX2_weights 0 = .ok (.aload_n 0, 1) := by decide +kernel
theorem dX2_weights_1 : decode cX2_weights 1 = .ok (.getfield 25, 3) := by decide +kernel
theorem dX2_weights_4 : decode cX2_weights 4 = .ok (.areturn, 1) := by decide +kernel
abbrev cX2_inspect : ByteArray := prog_13_method_21_code
def yX2_inspect : MethodName := ⟨RX2, "inspect", "(II)I"⟩
def dkwX2_inspect_4 : List UInt8 := [54, 5, 25, 4, 182, 0, 164, 42, 89, 180, 0, 76, 4, 96, 181, 0, 76, 21, 5, 172]
abbrev dktX2_inspect_4 : List UInt8 := dkwX2_inspect_4 ++ []
def dkwX2_inspect_3 : List UInt8 := [163, 0, 7, 4, 167, 0, 4, 3, 7, 25, 4, 182, 0, 113, 184, 0, 99, 45, 25, 4, 182, 0, 160]
abbrev dktX2_inspect_3 : List UInt8 := dkwX2_inspect_3 ++ dktX2_inspect_4
def dkwX2_inspect_2 : List UInt8 := [58, 5, 187, 0, 155, 89, 16, 12, 27, 25, 5, 183, 0, 157, 191, 25, 4, 182, 0, 113, 16, 9]
abbrev dktX2_inspect_2 : List UInt8 := dkwX2_inspect_2 ++ dktX2_inspect_3
def dkwX2_inspect_1 : List UInt8 := [184, 0, 99, 45, 182, 0, 136, 154, 0, 7, 4, 167, 0, 4, 3, 6, 27, 184, 0, 99, 167, 0, 18]
abbrev dktX2_inspect_1 : List UInt8 := dkwX2_inspect_1 ++ dktX2_inspect_2
def dkwX2_inspect_0 : List UInt8 := [42, 27, 182, 0, 146, 78, 42, 28, 182, 0, 109, 58, 4, 45, 182, 0, 149, 5, 45, 182, 0, 152]
abbrev dktX2_inspect_0 : List UInt8 := dkwX2_inspect_0 ++ dktX2_inspect_1
theorem dksX2_inspect_0 : cX2_inspect.data.toList.drop 0 = dktX2_inspect_0 := by decide +kernel
theorem dksX2_inspect_1 : cX2_inspect.data.toList.drop 22 = dktX2_inspect_1 := dk_seg dksX2_inspect_0 22 rfl rfl
theorem dksX2_inspect_2 : cX2_inspect.data.toList.drop 45 = dktX2_inspect_2 := dk_seg dksX2_inspect_1 23 rfl rfl
theorem dksX2_inspect_3 : cX2_inspect.data.toList.drop 67 = dktX2_inspect_3 := dk_seg dksX2_inspect_2 22 rfl rfl
theorem dksX2_inspect_4 : cX2_inspect.data.toList.drop 90 = dktX2_inspect_4 := dk_seg dksX2_inspect_3 23 rfl rfl
theorem dX2_inspect_0 : decode cX2_inspect 0 = .ok (.aload_n 0, 1) := dk_42 (dk_at dksX2_inspect_0 0 rfl rfl)
theorem dX2_inspect_1 : decode cX2_inspect 1 = .ok (.iload_n 1, 1) := dk_27 (dk_at dksX2_inspect_0 1 rfl rfl)
theorem dX2_inspect_2 : decode cX2_inspect 2 = .ok (.invokevirtual 146, 3) := dk_182 0 146 (dk_at dksX2_inspect_0 2 rfl rfl)
theorem dX2_inspect_5 : decode cX2_inspect 5 = .ok (.astore_n 3, 1) := dk_78 (dk_at dksX2_inspect_0 5 rfl rfl)
theorem dX2_inspect_6 : decode cX2_inspect 6 = .ok (.aload_n 0, 1) := dk_42 (dk_at dksX2_inspect_0 6 rfl rfl)
theorem dX2_inspect_7 : decode cX2_inspect 7 = .ok (.iload_n 2, 1) := dk_28 (dk_at dksX2_inspect_0 7 rfl rfl)
theorem dX2_inspect_8 : decode cX2_inspect 8 = .ok (.invokevirtual 109, 3) := dk_182 0 109 (dk_at dksX2_inspect_0 8 rfl rfl)
theorem dX2_inspect_11 : decode cX2_inspect 11 = .ok (.astore 4, 2) := dk_58 4 (dk_at dksX2_inspect_0 11 rfl rfl)
theorem dX2_inspect_13 : decode cX2_inspect 13 = .ok (.aload_n 3, 1) := dk_45 (dk_at dksX2_inspect_0 13 rfl rfl)
theorem dX2_inspect_14 : decode cX2_inspect 14 = .ok (.invokevirtual 149, 3) := dk_182 0 149 (dk_at dksX2_inspect_0 14 rfl rfl)
theorem dX2_inspect_17 : decode cX2_inspect 17 = .ok (.iconst 2, 1) := dk_5 (dk_at dksX2_inspect_0 17 rfl rfl)
theorem dX2_inspect_18 : decode cX2_inspect 18 = .ok (.aload_n 3, 1) := dk_45 (dk_at dksX2_inspect_0 18 rfl rfl)
theorem dX2_inspect_19 : decode cX2_inspect 19 = .ok (.invokevirtual 152, 3) := dk_182 0 152 (dk_at dksX2_inspect_0 19 rfl rfl)
theorem dX2_inspect_22 : decode cX2_inspect 22 = .ok (.invokestatic 99, 3) := dk_184 0 99 (dk_at dksX2_inspect_1 0 rfl rfl)
theorem dX2_inspect_25 : decode cX2_inspect 25 = .ok (.aload_n 3, 1) := dk_45 (dk_at dksX2_inspect_1 3 rfl rfl)
theorem dX2_inspect_26 : decode cX2_inspect 26 = .ok (.invokevirtual 136, 3) := dk_182 0 136 (dk_at dksX2_inspect_1 4 rfl rfl)
theorem dX2_inspect_29 : decode cX2_inspect 29 = .ok (.ifCond .ne 7, 3) := dk_154 0 7 (dk_at dksX2_inspect_1 7 rfl rfl)
theorem dX2_inspect_32 : decode cX2_inspect 32 = .ok (.iconst 1, 1) := dk_4 (dk_at dksX2_inspect_1 10 rfl rfl)
theorem dX2_inspect_33 : decode cX2_inspect 33 = .ok (.goto 4, 3) := dk_167 0 4 (dk_at dksX2_inspect_1 11 rfl rfl)
theorem dX2_inspect_36 : decode cX2_inspect 36 = .ok (.iconst 0, 1) := dk_3 (dk_at dksX2_inspect_1 14 rfl rfl)
theorem dX2_inspect_37 : decode cX2_inspect 37 = .ok (.iconst 3, 1) := dk_6 (dk_at dksX2_inspect_1 15 rfl rfl)
theorem dX2_inspect_38 : decode cX2_inspect 38 = .ok (.iload_n 1, 1) := dk_27 (dk_at dksX2_inspect_1 16 rfl rfl)
theorem dX2_inspect_39 : decode cX2_inspect 39 = .ok (.invokestatic 99, 3) := dk_184 0 99 (dk_at dksX2_inspect_1 17 rfl rfl)
theorem dX2_inspect_42 : decode cX2_inspect 42 = .ok (.goto 18, 3) := dk_167 0 18 (dk_at dksX2_inspect_1 20 rfl rfl)
theorem dX2_inspect_45 : decode cX2_inspect 45 = .ok (.astore 5, 2) := dk_58 5 (dk_at dksX2_inspect_2 0 rfl rfl)
theorem dX2_inspect_47 : decode cX2_inspect 47 = .ok (.new 155, 3) := dk_187 0 155 (dk_at dksX2_inspect_2 2 rfl rfl)
theorem dX2_inspect_50 : decode cX2_inspect 50 = .ok (.dup, 1) := dk_89 (dk_at dksX2_inspect_2 5 rfl rfl)
theorem dX2_inspect_51 : decode cX2_inspect 51 = .ok (.bipush 12, 2) := dk_16 12 (dk_at dksX2_inspect_2 6 rfl rfl)
theorem dX2_inspect_53 : decode cX2_inspect 53 = .ok (.iload_n 1, 1) := dk_27 (dk_at dksX2_inspect_2 8 rfl rfl)
theorem dX2_inspect_54 : decode cX2_inspect 54 = .ok (.aload 5, 2) := dk_25 5 (dk_at dksX2_inspect_2 9 rfl rfl)
theorem dX2_inspect_56 : decode cX2_inspect 56 = .ok (.invokespecial 157, 3) := dk_183 0 157 (dk_at dksX2_inspect_2 11 rfl rfl)
theorem dX2_inspect_59 : decode cX2_inspect 59 = .ok (.athrow, 1) := dk_191 (dk_at dksX2_inspect_2 14 rfl rfl)
theorem dX2_inspect_60 : decode cX2_inspect 60 = .ok (.aload 4, 2) := dk_25 4 (dk_at dksX2_inspect_2 15 rfl rfl)
theorem dX2_inspect_62 : decode cX2_inspect 62 = .ok (.invokevirtual 113, 3) := dk_182 0 113 (dk_at dksX2_inspect_2 17 rfl rfl)
theorem dX2_inspect_65 : decode cX2_inspect 65 = .ok (.bipush 9, 2) := dk_16 9 (dk_at dksX2_inspect_2 20 rfl rfl)
theorem dX2_inspect_67 : decode cX2_inspect 67 = .ok (.if_icmp .gt 7, 3) := dk_163 0 7 (dk_at dksX2_inspect_3 0 rfl rfl)
theorem dX2_inspect_70 : decode cX2_inspect 70 = .ok (.iconst 1, 1) := dk_4 (dk_at dksX2_inspect_3 3 rfl rfl)
theorem dX2_inspect_71 : decode cX2_inspect 71 = .ok (.goto 4, 3) := dk_167 0 4 (dk_at dksX2_inspect_3 4 rfl rfl)
theorem dX2_inspect_74 : decode cX2_inspect 74 = .ok (.iconst 0, 1) := dk_3 (dk_at dksX2_inspect_3 7 rfl rfl)
theorem dX2_inspect_75 : decode cX2_inspect 75 = .ok (.iconst 4, 1) := dk_7 (dk_at dksX2_inspect_3 8 rfl rfl)
theorem dX2_inspect_76 : decode cX2_inspect 76 = .ok (.aload 4, 2) := dk_25 4 (dk_at dksX2_inspect_3 9 rfl rfl)
theorem dX2_inspect_78 : decode cX2_inspect 78 = .ok (.invokevirtual 113, 3) := dk_182 0 113 (dk_at dksX2_inspect_3 11 rfl rfl)
theorem dX2_inspect_81 : decode cX2_inspect 81 = .ok (.invokestatic 99, 3) := dk_184 0 99 (dk_at dksX2_inspect_3 14 rfl rfl)
theorem dX2_inspect_84 : decode cX2_inspect 84 = .ok (.aload_n 3, 1) := dk_45 (dk_at dksX2_inspect_3 17 rfl rfl)
theorem dX2_inspect_85 : decode cX2_inspect 85 = .ok (.aload 4, 2) := dk_25 4 (dk_at dksX2_inspect_3 18 rfl rfl)
theorem dX2_inspect_87 : decode cX2_inspect 87 = .ok (.invokevirtual 160, 3) := dk_182 0 160 (dk_at dksX2_inspect_3 20 rfl rfl)
theorem dX2_inspect_90 : decode cX2_inspect 90 = .ok (.istore 5, 2) := dk_54 5 (dk_at dksX2_inspect_4 0 rfl rfl)
theorem dX2_inspect_92 : decode cX2_inspect 92 = .ok (.aload 4, 2) := dk_25 4 (dk_at dksX2_inspect_4 2 rfl rfl)
theorem dX2_inspect_94 : decode cX2_inspect 94 = .ok (.invokevirtual 164, 3) := dk_182 0 164 (dk_at dksX2_inspect_4 4 rfl rfl)
theorem dX2_inspect_97 : decode cX2_inspect 97 = .ok (.aload_n 0, 1) := dk_42 (dk_at dksX2_inspect_4 7 rfl rfl)
theorem dX2_inspect_98 : decode cX2_inspect 98 = .ok (.dup, 1) := dk_89 (dk_at dksX2_inspect_4 8 rfl rfl)
theorem dX2_inspect_99 : decode cX2_inspect 99 = .ok (.getfield 76, 3) := dk_180 0 76 (dk_at dksX2_inspect_4 9 rfl rfl)
theorem dX2_inspect_102 : decode cX2_inspect 102 = .ok (.iconst 1, 1) := dk_4 (dk_at dksX2_inspect_4 12 rfl rfl)
theorem dX2_inspect_103 : decode cX2_inspect 103 = .ok (.iadd, 1) := dk_96 (dk_at dksX2_inspect_4 13 rfl rfl)
theorem dX2_inspect_104 : decode cX2_inspect 104 = .ok (.putfield 76, 3) := dk_181 0 76 (dk_at dksX2_inspect_4 14 rfl rfl)
theorem dX2_inspect_107 : decode cX2_inspect 107 = .ok (.iload 5, 2) := dk_21 5 (dk_at dksX2_inspect_4 17 rfl rfl)
theorem dX2_inspect_109 : decode cX2_inspect 109 = .ok (.ireturn, 1) := dk_172 (dk_at dksX2_inspect_4 19 rfl rfl)
abbrev cX2_mend : ByteArray := prog_13_method_22_code
def yX2_mend : MethodName := ⟨RX2, "mend", "(I)I"⟩
def dkwX2_mend_2 : List UInt8 := [184, 0, 99, 44, 182, 0, 173, 172]
abbrev dktX2_mend_2 : List UInt8 := dkwX2_mend_2 ++ []
def dkwX2_mend_1 : List UInt8 := [44, 182, 0, 170, 16, 6, 161, 0, 7, 4, 167, 0, 4, 3, 8, 16, 6, 44, 182, 0, 170, 100]
abbrev dktX2_mend_1 : List UInt8 := dkwX2_mend_1 ++ dktX2_mend_2
def dkwX2_mend_0 : List UInt8 := [42, 27, 182, 0, 146, 77, 44, 182, 0, 167, 153, 0, 7, 4, 167, 0, 4, 3, 16, 6, 27, 184, 0, 99]
abbrev dktX2_mend_0 : List UInt8 := dkwX2_mend_0 ++ dktX2_mend_1
theorem dksX2_mend_0 : cX2_mend.data.toList.drop 0 = dktX2_mend_0 := by decide +kernel
theorem dksX2_mend_1 : cX2_mend.data.toList.drop 24 = dktX2_mend_1 := dk_seg dksX2_mend_0 24 rfl rfl
theorem dksX2_mend_2 : cX2_mend.data.toList.drop 46 = dktX2_mend_2 := dk_seg dksX2_mend_1 22 rfl rfl
theorem dX2_mend_0 : decode cX2_mend 0 = .ok (.aload_n 0, 1) := dk_42 (dk_at dksX2_mend_0 0 rfl rfl)
theorem dX2_mend_1 : decode cX2_mend 1 = .ok (.iload_n 1, 1) := dk_27 (dk_at dksX2_mend_0 1 rfl rfl)
theorem dX2_mend_2 : decode cX2_mend 2 = .ok (.invokevirtual 146, 3) := dk_182 0 146 (dk_at dksX2_mend_0 2 rfl rfl)
theorem dX2_mend_5 : decode cX2_mend 5 = .ok (.astore_n 2, 1) := dk_77 (dk_at dksX2_mend_0 5 rfl rfl)
theorem dX2_mend_6 : decode cX2_mend 6 = .ok (.aload_n 2, 1) := dk_44 (dk_at dksX2_mend_0 6 rfl rfl)
theorem dX2_mend_7 : decode cX2_mend 7 = .ok (.invokevirtual 167, 3) := dk_182 0 167 (dk_at dksX2_mend_0 7 rfl rfl)
theorem dX2_mend_10 : decode cX2_mend 10 = .ok (.ifCond .eq 7, 3) := dk_153 0 7 (dk_at dksX2_mend_0 10 rfl rfl)
theorem dX2_mend_13 : decode cX2_mend 13 = .ok (.iconst 1, 1) := dk_4 (dk_at dksX2_mend_0 13 rfl rfl)
theorem dX2_mend_14 : decode cX2_mend 14 = .ok (.goto 4, 3) := dk_167 0 4 (dk_at dksX2_mend_0 14 rfl rfl)
theorem dX2_mend_17 : decode cX2_mend 17 = .ok (.iconst 0, 1) := dk_3 (dk_at dksX2_mend_0 17 rfl rfl)
theorem dX2_mend_18 : decode cX2_mend 18 = .ok (.bipush 6, 2) := dk_16 6 (dk_at dksX2_mend_0 18 rfl rfl)
theorem dX2_mend_20 : decode cX2_mend 20 = .ok (.iload_n 1, 1) := dk_27 (dk_at dksX2_mend_0 20 rfl rfl)
theorem dX2_mend_21 : decode cX2_mend 21 = .ok (.invokestatic 99, 3) := dk_184 0 99 (dk_at dksX2_mend_0 21 rfl rfl)
theorem dX2_mend_24 : decode cX2_mend 24 = .ok (.aload_n 2, 1) := dk_44 (dk_at dksX2_mend_1 0 rfl rfl)
theorem dX2_mend_25 : decode cX2_mend 25 = .ok (.invokevirtual 170, 3) := dk_182 0 170 (dk_at dksX2_mend_1 1 rfl rfl)
theorem dX2_mend_28 : decode cX2_mend 28 = .ok (.bipush 6, 2) := dk_16 6 (dk_at dksX2_mend_1 4 rfl rfl)
theorem dX2_mend_30 : decode cX2_mend 30 = .ok (.if_icmp .lt 7, 3) := dk_161 0 7 (dk_at dksX2_mend_1 6 rfl rfl)
theorem dX2_mend_33 : decode cX2_mend 33 = .ok (.iconst 1, 1) := dk_4 (dk_at dksX2_mend_1 9 rfl rfl)
theorem dX2_mend_34 : decode cX2_mend 34 = .ok (.goto 4, 3) := dk_167 0 4 (dk_at dksX2_mend_1 10 rfl rfl)
theorem dX2_mend_37 : decode cX2_mend 37 = .ok (.iconst 0, 1) := dk_3 (dk_at dksX2_mend_1 13 rfl rfl)
theorem dX2_mend_38 : decode cX2_mend 38 = .ok (.iconst 5, 1) := dk_8 (dk_at dksX2_mend_1 14 rfl rfl)
theorem dX2_mend_39 : decode cX2_mend 39 = .ok (.bipush 6, 2) := dk_16 6 (dk_at dksX2_mend_1 15 rfl rfl)
theorem dX2_mend_41 : decode cX2_mend 41 = .ok (.aload_n 2, 1) := dk_44 (dk_at dksX2_mend_1 17 rfl rfl)
theorem dX2_mend_42 : decode cX2_mend 42 = .ok (.invokevirtual 170, 3) := dk_182 0 170 (dk_at dksX2_mend_1 18 rfl rfl)
theorem dX2_mend_45 : decode cX2_mend 45 = .ok (.isub, 1) := dk_100 (dk_at dksX2_mend_1 21 rfl rfl)
theorem dX2_mend_46 : decode cX2_mend 46 = .ok (.invokestatic 99, 3) := dk_184 0 99 (dk_at dksX2_mend_2 0 rfl rfl)
theorem dX2_mend_49 : decode cX2_mend 49 = .ok (.aload_n 2, 1) := dk_44 (dk_at dksX2_mend_2 3 rfl rfl)
theorem dX2_mend_50 : decode cX2_mend 50 = .ok (.invokevirtual 173, 3) := dk_182 0 173 (dk_at dksX2_mend_2 4 rfl rfl)
theorem dX2_mend_53 : decode cX2_mend 53 = .ok (.ireturn, 1) := dk_172 (dk_at dksX2_mend_2 7 rfl rfl)
abbrev cX2_shave : ByteArray := prog_13_method_23_code
def yX2_shave : MethodName := ⟨RX2, "shave", "(II)I"⟩
def dkwX2_shave_2 : List UInt8 := [28, 182, 0, 179, 172]
abbrev dktX2_shave_2 : List UInt8 := dkwX2_shave_2 ++ []
def dkwX2_shave_1 : List UInt8 := [184, 0, 99, 45, 182, 0, 176, 16, 20, 162, 0, 7, 4, 167, 0, 4, 3, 16, 8, 27, 184, 0, 99, 45]
abbrev dktX2_shave_1 : List UInt8 := dkwX2_shave_1 ++ dktX2_shave_2
def dkwX2_shave_0 : List UInt8 := [42, 27, 182, 0, 146, 78, 45, 182, 0, 149, 154, 0, 7, 4, 167, 0, 4, 3, 16, 7, 45, 182, 0, 152]
abbrev dktX2_shave_0 : List UInt8 := dkwX2_shave_0 ++ dktX2_shave_1
theorem dksX2_shave_0 : cX2_shave.data.toList.drop 0 = dktX2_shave_0 := by decide +kernel
theorem dksX2_shave_1 : cX2_shave.data.toList.drop 24 = dktX2_shave_1 := dk_seg dksX2_shave_0 24 rfl rfl
theorem dksX2_shave_2 : cX2_shave.data.toList.drop 48 = dktX2_shave_2 := dk_seg dksX2_shave_1 24 rfl rfl
theorem dX2_shave_0 : decode cX2_shave 0 = .ok (.aload_n 0, 1) := dk_42 (dk_at dksX2_shave_0 0 rfl rfl)
theorem dX2_shave_1 : decode cX2_shave 1 = .ok (.iload_n 1, 1) := dk_27 (dk_at dksX2_shave_0 1 rfl rfl)
theorem dX2_shave_2 : decode cX2_shave 2 = .ok (.invokevirtual 146, 3) := dk_182 0 146 (dk_at dksX2_shave_0 2 rfl rfl)
theorem dX2_shave_5 : decode cX2_shave 5 = .ok (.astore_n 3, 1) := dk_78 (dk_at dksX2_shave_0 5 rfl rfl)
theorem dX2_shave_6 : decode cX2_shave 6 = .ok (.aload_n 3, 1) := dk_45 (dk_at dksX2_shave_0 6 rfl rfl)
theorem dX2_shave_7 : decode cX2_shave 7 = .ok (.invokevirtual 149, 3) := dk_182 0 149 (dk_at dksX2_shave_0 7 rfl rfl)
theorem dX2_shave_10 : decode cX2_shave 10 = .ok (.ifCond .ne 7, 3) := dk_154 0 7 (dk_at dksX2_shave_0 10 rfl rfl)
theorem dX2_shave_13 : decode cX2_shave 13 = .ok (.iconst 1, 1) := dk_4 (dk_at dksX2_shave_0 13 rfl rfl)
theorem dX2_shave_14 : decode cX2_shave 14 = .ok (.goto 4, 3) := dk_167 0 4 (dk_at dksX2_shave_0 14 rfl rfl)
theorem dX2_shave_17 : decode cX2_shave 17 = .ok (.iconst 0, 1) := dk_3 (dk_at dksX2_shave_0 17 rfl rfl)
theorem dX2_shave_18 : decode cX2_shave 18 = .ok (.bipush 7, 2) := dk_16 7 (dk_at dksX2_shave_0 18 rfl rfl)
theorem dX2_shave_20 : decode cX2_shave 20 = .ok (.aload_n 3, 1) := dk_45 (dk_at dksX2_shave_0 20 rfl rfl)
theorem dX2_shave_21 : decode cX2_shave 21 = .ok (.invokevirtual 152, 3) := dk_182 0 152 (dk_at dksX2_shave_0 21 rfl rfl)
theorem dX2_shave_24 : decode cX2_shave 24 = .ok (.invokestatic 99, 3) := dk_184 0 99 (dk_at dksX2_shave_1 0 rfl rfl)
theorem dX2_shave_27 : decode cX2_shave 27 = .ok (.aload_n 3, 1) := dk_45 (dk_at dksX2_shave_1 3 rfl rfl)
theorem dX2_shave_28 : decode cX2_shave 28 = .ok (.invokevirtual 176, 3) := dk_182 0 176 (dk_at dksX2_shave_1 4 rfl rfl)
theorem dX2_shave_31 : decode cX2_shave 31 = .ok (.bipush 20, 2) := dk_16 20 (dk_at dksX2_shave_1 7 rfl rfl)
theorem dX2_shave_33 : decode cX2_shave 33 = .ok (.if_icmp .ge 7, 3) := dk_162 0 7 (dk_at dksX2_shave_1 9 rfl rfl)
theorem dX2_shave_36 : decode cX2_shave 36 = .ok (.iconst 1, 1) := dk_4 (dk_at dksX2_shave_1 12 rfl rfl)
theorem dX2_shave_37 : decode cX2_shave 37 = .ok (.goto 4, 3) := dk_167 0 4 (dk_at dksX2_shave_1 13 rfl rfl)
theorem dX2_shave_40 : decode cX2_shave 40 = .ok (.iconst 0, 1) := dk_3 (dk_at dksX2_shave_1 16 rfl rfl)
theorem dX2_shave_41 : decode cX2_shave 41 = .ok (.bipush 8, 2) := dk_16 8 (dk_at dksX2_shave_1 17 rfl rfl)
theorem dX2_shave_43 : decode cX2_shave 43 = .ok (.iload_n 1, 1) := dk_27 (dk_at dksX2_shave_1 19 rfl rfl)
theorem dX2_shave_44 : decode cX2_shave 44 = .ok (.invokestatic 99, 3) := dk_184 0 99 (dk_at dksX2_shave_1 20 rfl rfl)
theorem dX2_shave_47 : decode cX2_shave 47 = .ok (.aload_n 3, 1) := dk_45 (dk_at dksX2_shave_1 23 rfl rfl)
theorem dX2_shave_48 : decode cX2_shave 48 = .ok (.iload_n 2, 1) := dk_28 (dk_at dksX2_shave_2 0 rfl rfl)
theorem dX2_shave_49 : decode cX2_shave 49 = .ok (.invokevirtual 179, 3) := dk_182 0 179 (dk_at dksX2_shave_2 1 rfl rfl)
theorem dX2_shave_52 : decode cX2_shave 52 = .ok (.ireturn, 1) := dk_172 (dk_at dksX2_shave_2 4 rfl rfl)
abbrev cX2_pay : ByteArray := prog_13_method_24_code
def yX2_pay : MethodName := ⟨RX2, "pay", "(II)I"⟩
def dkwX2_pay_2 : List UInt8 := [8, 21, 4, 45, 182, 0, 170, 100, 184, 0, 99, 45, 21, 4, 182, 0, 192, 172]
abbrev dktX2_pay_2 : List UInt8 := dkwX2_pay_2 ++ []
def dkwX2_pay_1 : List UInt8 := [28, 45, 182, 0, 183, 184, 0, 186, 54, 4, 45, 182, 0, 170, 21, 4, 161, 0, 7, 4, 167, 0, 4, 3]
abbrev dktX2_pay_1 : List UInt8 := dkwX2_pay_1 ++ dktX2_pay_2
def dkwX2_pay_0 : List UInt8 := [42, 27, 182, 0, 146, 78, 45, 182, 0, 183, 158, 0, 7, 4, 167, 0, 4, 3, 16, 9, 27, 184, 0, 99]
abbrev dktX2_pay_0 : List UInt8 := dkwX2_pay_0 ++ dktX2_pay_1
theorem dksX2_pay_0 : cX2_pay.data.toList.drop 0 = dktX2_pay_0 := by decide +kernel
theorem dksX2_pay_1 : cX2_pay.data.toList.drop 24 = dktX2_pay_1 := dk_seg dksX2_pay_0 24 rfl rfl
theorem dksX2_pay_2 : cX2_pay.data.toList.drop 48 = dktX2_pay_2 := dk_seg dksX2_pay_1 24 rfl rfl
theorem dX2_pay_0 : decode cX2_pay 0 = .ok (.aload_n 0, 1) := dk_42 (dk_at dksX2_pay_0 0 rfl rfl)
theorem dX2_pay_1 : decode cX2_pay 1 = .ok (.iload_n 1, 1) := dk_27 (dk_at dksX2_pay_0 1 rfl rfl)
theorem dX2_pay_2 : decode cX2_pay 2 = .ok (.invokevirtual 146, 3) := dk_182 0 146 (dk_at dksX2_pay_0 2 rfl rfl)
theorem dX2_pay_5 : decode cX2_pay 5 = .ok (.astore_n 3, 1) := dk_78 (dk_at dksX2_pay_0 5 rfl rfl)
theorem dX2_pay_6 : decode cX2_pay 6 = .ok (.aload_n 3, 1) := dk_45 (dk_at dksX2_pay_0 6 rfl rfl)
theorem dX2_pay_7 : decode cX2_pay 7 = .ok (.invokevirtual 183, 3) := dk_182 0 183 (dk_at dksX2_pay_0 7 rfl rfl)
theorem dX2_pay_10 : decode cX2_pay 10 = .ok (.ifCond .le 7, 3) := dk_158 0 7 (dk_at dksX2_pay_0 10 rfl rfl)
theorem dX2_pay_13 : decode cX2_pay 13 = .ok (.iconst 1, 1) := dk_4 (dk_at dksX2_pay_0 13 rfl rfl)
theorem dX2_pay_14 : decode cX2_pay 14 = .ok (.goto 4, 3) := dk_167 0 4 (dk_at dksX2_pay_0 14 rfl rfl)
theorem dX2_pay_17 : decode cX2_pay 17 = .ok (.iconst 0, 1) := dk_3 (dk_at dksX2_pay_0 17 rfl rfl)
theorem dX2_pay_18 : decode cX2_pay 18 = .ok (.bipush 9, 2) := dk_16 9 (dk_at dksX2_pay_0 18 rfl rfl)
theorem dX2_pay_20 : decode cX2_pay 20 = .ok (.iload_n 1, 1) := dk_27 (dk_at dksX2_pay_0 20 rfl rfl)
theorem dX2_pay_21 : decode cX2_pay 21 = .ok (.invokestatic 99, 3) := dk_184 0 99 (dk_at dksX2_pay_0 21 rfl rfl)
theorem dX2_pay_24 : decode cX2_pay 24 = .ok (.iload_n 2, 1) := dk_28 (dk_at dksX2_pay_1 0 rfl rfl)
theorem dX2_pay_25 : decode cX2_pay 25 = .ok (.aload_n 3, 1) := dk_45 (dk_at dksX2_pay_1 1 rfl rfl)
theorem dX2_pay_26 : decode cX2_pay 26 = .ok (.invokevirtual 183, 3) := dk_182 0 183 (dk_at dksX2_pay_1 2 rfl rfl)
theorem dX2_pay_29 : decode cX2_pay 29 = .ok (.invokestatic 186, 3) := dk_184 0 186 (dk_at dksX2_pay_1 5 rfl rfl)
theorem dX2_pay_32 : decode cX2_pay 32 = .ok (.istore 4, 2) := dk_54 4 (dk_at dksX2_pay_1 8 rfl rfl)
theorem dX2_pay_34 : decode cX2_pay 34 = .ok (.aload_n 3, 1) := dk_45 (dk_at dksX2_pay_1 10 rfl rfl)
theorem dX2_pay_35 : decode cX2_pay 35 = .ok (.invokevirtual 170, 3) := dk_182 0 170 (dk_at dksX2_pay_1 11 rfl rfl)
theorem dX2_pay_38 : decode cX2_pay 38 = .ok (.iload 4, 2) := dk_21 4 (dk_at dksX2_pay_1 14 rfl rfl)
theorem dX2_pay_40 : decode cX2_pay 40 = .ok (.if_icmp .lt 7, 3) := dk_161 0 7 (dk_at dksX2_pay_1 16 rfl rfl)
theorem dX2_pay_43 : decode cX2_pay 43 = .ok (.iconst 1, 1) := dk_4 (dk_at dksX2_pay_1 19 rfl rfl)
theorem dX2_pay_44 : decode cX2_pay 44 = .ok (.goto 4, 3) := dk_167 0 4 (dk_at dksX2_pay_1 20 rfl rfl)
theorem dX2_pay_47 : decode cX2_pay 47 = .ok (.iconst 0, 1) := dk_3 (dk_at dksX2_pay_1 23 rfl rfl)
theorem dX2_pay_48 : decode cX2_pay 48 = .ok (.iconst 5, 1) := dk_8 (dk_at dksX2_pay_2 0 rfl rfl)
theorem dX2_pay_49 : decode cX2_pay 49 = .ok (.iload 4, 2) := dk_21 4 (dk_at dksX2_pay_2 1 rfl rfl)
theorem dX2_pay_51 : decode cX2_pay 51 = .ok (.aload_n 3, 1) := dk_45 (dk_at dksX2_pay_2 3 rfl rfl)
theorem dX2_pay_52 : decode cX2_pay 52 = .ok (.invokevirtual 170, 3) := dk_182 0 170 (dk_at dksX2_pay_2 4 rfl rfl)
theorem dX2_pay_55 : decode cX2_pay 55 = .ok (.isub, 1) := dk_100 (dk_at dksX2_pay_2 7 rfl rfl)
theorem dX2_pay_56 : decode cX2_pay 56 = .ok (.invokestatic 99, 3) := dk_184 0 99 (dk_at dksX2_pay_2 8 rfl rfl)
theorem dX2_pay_59 : decode cX2_pay 59 = .ok (.aload_n 3, 1) := dk_45 (dk_at dksX2_pay_2 11 rfl rfl)
theorem dX2_pay_60 : decode cX2_pay 60 = .ok (.iload 4, 2) := dk_21 4 (dk_at dksX2_pay_2 12 rfl rfl)
theorem dX2_pay_62 : decode cX2_pay 62 = .ok (.invokevirtual 192, 3) := dk_182 0 192 (dk_at dksX2_pay_2 14 rfl rfl)
theorem dX2_pay_65 : decode cX2_pay 65 = .ok (.ireturn, 1) := dk_172 (dk_at dksX2_pay_2 17 rfl rfl)
abbrev cX2_rateOf : ByteArray := prog_13_method_8_code
def yX2_rateOf : MethodName := ⟨RX2, "rateOf", "(I)I"⟩
def dkwX2_rateOf_0 : List UInt8 := [42, 180, 0, 9, 27, 46, 172]
abbrev dktX2_rateOf_0 : List UInt8 := dkwX2_rateOf_0 ++ []
theorem dksX2_rateOf_0 : cX2_rateOf.data.toList.drop 0 = dktX2_rateOf_0 := by decide +kernel
theorem dX2_rateOf_0 : decode cX2_rateOf 0 = .ok (.aload_n 0, 1) := dk_42 (dk_at dksX2_rateOf_0 0 rfl rfl)
theorem dX2_rateOf_1 : decode cX2_rateOf 1 = .ok (.getfield 9, 3) := dk_180 0 9 (dk_at dksX2_rateOf_0 1 rfl rfl)
theorem dX2_rateOf_4 : decode cX2_rateOf 4 = .ok (.iload_n 1, 1) := dk_27 (dk_at dksX2_rateOf_0 4 rfl rfl)
theorem dX2_rateOf_5 : decode cX2_rateOf 5 = .ok (.iaload, 1) := dk_46 (dk_at dksX2_rateOf_0 5 rfl rfl)
theorem dX2_rateOf_6 : decode cX2_rateOf 6 = .ok (.ireturn, 1) := dk_172 (dk_at dksX2_rateOf_0 6 rfl rfl)
abbrev cX2_tradersOf : ByteArray := prog_13_method_28_code
def yX2_tradersOf : MethodName := ⟨RX2, "tradersOf", "(I)I"⟩
def dkwX2_tradersOf_2 : List UInt8 := [3, 96, 61, 167, 255, 219, 28, 172]
abbrev dktX2_tradersOf_2 : List UInt8 := dkwX2_tradersOf_2 ++ []
def dkwX2_tradersOf_1 : List UInt8 := [185, 0, 47, 1, 0, 192, 0, 51, 58, 4, 28, 25, 4, 182, 0, 152, 27, 160, 0, 7, 4, 167, 0, 4]
abbrev dktX2_tradersOf_1 : List UInt8 := dkwX2_tradersOf_1 ++ dktX2_tradersOf_2
def dkwX2_tradersOf_0 : List UInt8 := [3, 61, 42, 27, 182, 0, 126, 185, 0, 130, 1, 0, 78, 45, 185, 0, 41, 1, 0, 153, 0, 34, 45]
abbrev dktX2_tradersOf_0 : List UInt8 := dkwX2_tradersOf_0 ++ dktX2_tradersOf_1
theorem dksX2_tradersOf_0 : cX2_tradersOf.data.toList.drop 0 = dktX2_tradersOf_0 := by decide +kernel
theorem dksX2_tradersOf_1 : cX2_tradersOf.data.toList.drop 23 = dktX2_tradersOf_1 := dk_seg dksX2_tradersOf_0 23 rfl rfl
theorem dksX2_tradersOf_2 : cX2_tradersOf.data.toList.drop 47 = dktX2_tradersOf_2 := dk_seg dksX2_tradersOf_1 24 rfl rfl
theorem dX2_tradersOf_0 : decode cX2_tradersOf 0 = .ok (.iconst 0, 1) := dk_3 (dk_at dksX2_tradersOf_0 0 rfl rfl)
theorem dX2_tradersOf_1 : decode cX2_tradersOf 1 = .ok (.istore_n 2, 1) := dk_61 (dk_at dksX2_tradersOf_0 1 rfl rfl)
theorem dX2_tradersOf_2 : decode cX2_tradersOf 2 = .ok (.aload_n 0, 1) := dk_42 (dk_at dksX2_tradersOf_0 2 rfl rfl)
theorem dX2_tradersOf_3 : decode cX2_tradersOf 3 = .ok (.iload_n 1, 1) := dk_27 (dk_at dksX2_tradersOf_0 3 rfl rfl)
theorem dX2_tradersOf_4 : decode cX2_tradersOf 4 = .ok (.invokevirtual 126, 3) := dk_182 0 126 (dk_at dksX2_tradersOf_0 4 rfl rfl)
theorem dX2_tradersOf_7 : decode cX2_tradersOf 7 = .ok (.invokeinterface 130 1, 5) := by decide +kernel
theorem dX2_tradersOf_12 : decode cX2_tradersOf 12 = .ok (.astore_n 3, 1) := dk_78 (dk_at dksX2_tradersOf_0 12 rfl rfl)
theorem dX2_tradersOf_13 : decode cX2_tradersOf 13 = .ok (.aload_n 3, 1) := dk_45 (dk_at dksX2_tradersOf_0 13 rfl rfl)
theorem dX2_tradersOf_14 : decode cX2_tradersOf 14 = .ok (.invokeinterface 41 1, 5) := by decide +kernel
theorem dX2_tradersOf_19 : decode cX2_tradersOf 19 = .ok (.ifCond .eq 34, 3) := dk_153 0 34 (dk_at dksX2_tradersOf_0 19 rfl rfl)
theorem dX2_tradersOf_22 : decode cX2_tradersOf 22 = .ok (.aload_n 3, 1) := dk_45 (dk_at dksX2_tradersOf_0 22 rfl rfl)
theorem dX2_tradersOf_23 : decode cX2_tradersOf 23 = .ok (.invokeinterface 47 1, 5) := by decide +kernel
theorem dX2_tradersOf_28 : decode cX2_tradersOf 28 = .ok (.checkcast 51, 3) := dk_192 0 51 (dk_at dksX2_tradersOf_1 5 rfl rfl)
theorem dX2_tradersOf_31 : decode cX2_tradersOf 31 = .ok (.astore 4, 2) := dk_58 4 (dk_at dksX2_tradersOf_1 8 rfl rfl)
theorem dX2_tradersOf_33 : decode cX2_tradersOf 33 = .ok (.iload_n 2, 1) := dk_28 (dk_at dksX2_tradersOf_1 10 rfl rfl)
theorem dX2_tradersOf_34 : decode cX2_tradersOf 34 = .ok (.aload 4, 2) := dk_25 4 (dk_at dksX2_tradersOf_1 11 rfl rfl)
theorem dX2_tradersOf_36 : decode cX2_tradersOf 36 = .ok (.invokevirtual 152, 3) := dk_182 0 152 (dk_at dksX2_tradersOf_1 13 rfl rfl)
theorem dX2_tradersOf_39 : decode cX2_tradersOf 39 = .ok (.iload_n 1, 1) := dk_27 (dk_at dksX2_tradersOf_1 16 rfl rfl)
theorem dX2_tradersOf_40 : decode cX2_tradersOf 40 = .ok (.if_icmp .ne 7, 3) := dk_160 0 7 (dk_at dksX2_tradersOf_1 17 rfl rfl)
theorem dX2_tradersOf_43 : decode cX2_tradersOf 43 = .ok (.iconst 1, 1) := dk_4 (dk_at dksX2_tradersOf_1 20 rfl rfl)
theorem dX2_tradersOf_44 : decode cX2_tradersOf 44 = .ok (.goto 4, 3) := dk_167 0 4 (dk_at dksX2_tradersOf_1 21 rfl rfl)
theorem dX2_tradersOf_47 : decode cX2_tradersOf 47 = .ok (.iconst 0, 1) := dk_3 (dk_at dksX2_tradersOf_2 0 rfl rfl)
theorem dX2_tradersOf_48 : decode cX2_tradersOf 48 = .ok (.iadd, 1) := dk_96 (dk_at dksX2_tradersOf_2 1 rfl rfl)
theorem dX2_tradersOf_49 : decode cX2_tradersOf 49 = .ok (.istore_n 2, 1) := dk_61 (dk_at dksX2_tradersOf_2 2 rfl rfl)
theorem dX2_tradersOf_50 : decode cX2_tradersOf 50 = .ok (.goto (-37), 3) := dk_167 255 219 (dk_at dksX2_tradersOf_2 3 rfl rfl)
theorem dX2_tradersOf_53 : decode cX2_tradersOf 53 = .ok (.iload_n 2, 1) := dk_28 (dk_at dksX2_tradersOf_2 6 rfl rfl)
theorem dX2_tradersOf_54 : decode cX2_tradersOf 54 = .ok (.ireturn, 1) := dk_172 (dk_at dksX2_tradersOf_2 7 rfl rfl)
abbrev cX2_sealsOf : ByteArray := prog_13_method_29_code
def yX2_sealsOf : MethodName := ⟨RX2, "sealsOf", "(I)I"⟩
def dkwX2_sealsOf_2 : List UInt8 := [96, 61, 167, 255, 220, 28, 172]
abbrev dktX2_sealsOf_2 : List UInt8 := dkwX2_sealsOf_2 ++ []
def dkwX2_sealsOf_1 : List UInt8 := [185, 0, 47, 1, 0, 192, 0, 51, 58, 4, 28, 25, 4, 182, 0, 213, 153, 0, 7, 4, 167, 0, 4, 3]
abbrev dktX2_sealsOf_1 : List UInt8 := dkwX2_sealsOf_1 ++ dktX2_sealsOf_2
def dkwX2_sealsOf_0 : List UInt8 := [3, 61, 42, 27, 182, 0, 126, 185, 0, 130, 1, 0, 78, 45, 185, 0, 41, 1, 0, 153, 0, 33, 45]
abbrev dktX2_sealsOf_0 : List UInt8 := dkwX2_sealsOf_0 ++ dktX2_sealsOf_1
theorem dksX2_sealsOf_0 : cX2_sealsOf.data.toList.drop 0 = dktX2_sealsOf_0 := by decide +kernel
theorem dksX2_sealsOf_1 : cX2_sealsOf.data.toList.drop 23 = dktX2_sealsOf_1 := dk_seg dksX2_sealsOf_0 23 rfl rfl
theorem dksX2_sealsOf_2 : cX2_sealsOf.data.toList.drop 47 = dktX2_sealsOf_2 := dk_seg dksX2_sealsOf_1 24 rfl rfl
theorem dX2_sealsOf_0 : decode cX2_sealsOf 0 = .ok (.iconst 0, 1) := dk_3 (dk_at dksX2_sealsOf_0 0 rfl rfl)
theorem dX2_sealsOf_1 : decode cX2_sealsOf 1 = .ok (.istore_n 2, 1) := dk_61 (dk_at dksX2_sealsOf_0 1 rfl rfl)
theorem dX2_sealsOf_2 : decode cX2_sealsOf 2 = .ok (.aload_n 0, 1) := dk_42 (dk_at dksX2_sealsOf_0 2 rfl rfl)
theorem dX2_sealsOf_3 : decode cX2_sealsOf 3 = .ok (.iload_n 1, 1) := dk_27 (dk_at dksX2_sealsOf_0 3 rfl rfl)
theorem dX2_sealsOf_4 : decode cX2_sealsOf 4 = .ok (.invokevirtual 126, 3) := dk_182 0 126 (dk_at dksX2_sealsOf_0 4 rfl rfl)
theorem dX2_sealsOf_7 : decode cX2_sealsOf 7 = .ok (.invokeinterface 130 1, 5) := by decide +kernel
theorem dX2_sealsOf_12 : decode cX2_sealsOf 12 = .ok (.astore_n 3, 1) := dk_78 (dk_at dksX2_sealsOf_0 12 rfl rfl)
theorem dX2_sealsOf_13 : decode cX2_sealsOf 13 = .ok (.aload_n 3, 1) := dk_45 (dk_at dksX2_sealsOf_0 13 rfl rfl)
theorem dX2_sealsOf_14 : decode cX2_sealsOf 14 = .ok (.invokeinterface 41 1, 5) := by decide +kernel
theorem dX2_sealsOf_19 : decode cX2_sealsOf 19 = .ok (.ifCond .eq 33, 3) := dk_153 0 33 (dk_at dksX2_sealsOf_0 19 rfl rfl)
theorem dX2_sealsOf_22 : decode cX2_sealsOf 22 = .ok (.aload_n 3, 1) := dk_45 (dk_at dksX2_sealsOf_0 22 rfl rfl)
theorem dX2_sealsOf_23 : decode cX2_sealsOf 23 = .ok (.invokeinterface 47 1, 5) := by decide +kernel
theorem dX2_sealsOf_28 : decode cX2_sealsOf 28 = .ok (.checkcast 51, 3) := dk_192 0 51 (dk_at dksX2_sealsOf_1 5 rfl rfl)
theorem dX2_sealsOf_31 : decode cX2_sealsOf 31 = .ok (.astore 4, 2) := dk_58 4 (dk_at dksX2_sealsOf_1 8 rfl rfl)
theorem dX2_sealsOf_33 : decode cX2_sealsOf 33 = .ok (.iload_n 2, 1) := dk_28 (dk_at dksX2_sealsOf_1 10 rfl rfl)
theorem dX2_sealsOf_34 : decode cX2_sealsOf 34 = .ok (.aload 4, 2) := dk_25 4 (dk_at dksX2_sealsOf_1 11 rfl rfl)
theorem dX2_sealsOf_36 : decode cX2_sealsOf 36 = .ok (.invokevirtual 213, 3) := dk_182 0 213 (dk_at dksX2_sealsOf_1 13 rfl rfl)
theorem dX2_sealsOf_39 : decode cX2_sealsOf 39 = .ok (.ifCond .eq 7, 3) := dk_153 0 7 (dk_at dksX2_sealsOf_1 16 rfl rfl)
theorem dX2_sealsOf_42 : decode cX2_sealsOf 42 = .ok (.iconst 1, 1) := dk_4 (dk_at dksX2_sealsOf_1 19 rfl rfl)
theorem dX2_sealsOf_43 : decode cX2_sealsOf 43 = .ok (.goto 4, 3) := dk_167 0 4 (dk_at dksX2_sealsOf_1 20 rfl rfl)
theorem dX2_sealsOf_46 : decode cX2_sealsOf 46 = .ok (.iconst 0, 1) := dk_3 (dk_at dksX2_sealsOf_1 23 rfl rfl)
theorem dX2_sealsOf_47 : decode cX2_sealsOf 47 = .ok (.iadd, 1) := dk_96 (dk_at dksX2_sealsOf_2 0 rfl rfl)
theorem dX2_sealsOf_48 : decode cX2_sealsOf 48 = .ok (.istore_n 2, 1) := dk_61 (dk_at dksX2_sealsOf_2 1 rfl rfl)
theorem dX2_sealsOf_49 : decode cX2_sealsOf 49 = .ok (.goto (-36), 3) := dk_167 255 220 (dk_at dksX2_sealsOf_2 2 rfl rfl)
theorem dX2_sealsOf_52 : decode cX2_sealsOf 52 = .ok (.iload_n 2, 1) := dk_28 (dk_at dksX2_sealsOf_2 5 rfl rfl)
theorem dX2_sealsOf_53 : decode cX2_sealsOf 53 = .ok (.ireturn, 1) := dk_172 (dk_at dksX2_sealsOf_2 6 rfl rfl)
abbrev cX2_finesOf : ByteArray := prog_13_method_9_code
def yX2_finesOf : MethodName := ⟨RX2, "finesOf", "(I)I"⟩
def dkwX2_finesOf_0 : List UInt8 := [42, 180, 0, 15, 27, 46, 172]
abbrev dktX2_finesOf_0 : List UInt8 := dkwX2_finesOf_0 ++ []
theorem dksX2_finesOf_0 : cX2_finesOf.data.toList.drop 0 = dktX2_finesOf_0 := by decide +kernel
theorem dX2_finesOf_0 : decode cX2_finesOf 0 = .ok (.aload_n 0, 1) := dk_42 (dk_at dksX2_finesOf_0 0 rfl rfl)
theorem dX2_finesOf_1 : decode cX2_finesOf 1 = .ok (.getfield 15, 3) := dk_180 0 15 (dk_at dksX2_finesOf_0 1 rfl rfl)
theorem dX2_finesOf_4 : decode cX2_finesOf 4 = .ok (.iload_n 1, 1) := dk_27 (dk_at dksX2_finesOf_0 4 rfl rfl)
theorem dX2_finesOf_5 : decode cX2_finesOf 5 = .ok (.iaload, 1) := dk_46 (dk_at dksX2_finesOf_0 5 rfl rfl)
theorem dX2_finesOf_6 : decode cX2_finesOf 6 = .ok (.ireturn, 1) := dk_172 (dk_at dksX2_finesOf_0 6 rfl rfl)
abbrev cX2_next : ByteArray := prog_13_method_20_code
def yX2_next : MethodName := ⟨RX2, "next", "()LBrassInspector$Round$Trader;"⟩
def dkwX2_next_4 : List UInt8 := [199, 0, 7, 1, 167, 0, 7, 43, 180, 0, 142, 176]
abbrev dktX2_next_4 : List UInt8 := dkwX2_next_4 ++ []
def dkwX2_next_3 : List UInt8 := [167, 0, 4, 3, 54, 5, 21, 5, 153, 0, 8, 25, 4, 167, 0, 4, 43, 76, 167, 255, 184, 43]
abbrev dktX2_next_3 : List UInt8 := dkwX2_next_3 ++ dktX2_next_4
def dkwX2_next_2 : List UInt8 := [45, 182, 0, 136, 154, 0, 23, 43, 198, 0, 15, 25, 4, 182, 0, 139, 43, 182, 0, 139, 164, 0, 7, 4]
abbrev dktX2_next_2 : List UInt8 := dkwX2_next_2 ++ dktX2_next_3
def dkwX2_next_1 : List UInt8 := [153, 0, 69, 44, 185, 0, 47, 1, 0, 192, 0, 51, 78, 187, 0, 133, 89, 42, 45, 183, 0, 135, 58, 4]
abbrev dktX2_next_1 : List UInt8 := dkwX2_next_1 ++ dktX2_next_2
def dkwX2_next_0 : List UInt8 := [1, 76, 42, 42, 182, 0, 123, 182, 0, 126, 185, 0, 130, 1, 0, 77, 44, 185, 0, 41, 1, 0]
abbrev dktX2_next_0 : List UInt8 := dkwX2_next_0 ++ dktX2_next_1
theorem dksX2_next_0 : cX2_next.data.toList.drop 0 = dktX2_next_0 := by decide +kernel
theorem dksX2_next_1 : cX2_next.data.toList.drop 22 = dktX2_next_1 := dk_seg dksX2_next_0 22 rfl rfl
theorem dksX2_next_2 : cX2_next.data.toList.drop 46 = dktX2_next_2 := dk_seg dksX2_next_1 24 rfl rfl
theorem dksX2_next_3 : cX2_next.data.toList.drop 70 = dktX2_next_3 := dk_seg dksX2_next_2 24 rfl rfl
theorem dksX2_next_4 : cX2_next.data.toList.drop 92 = dktX2_next_4 := dk_seg dksX2_next_3 22 rfl rfl
theorem dX2_next_0 : decode cX2_next 0 = .ok (.aconst_null, 1) := dk_1 (dk_at dksX2_next_0 0 rfl rfl)
theorem dX2_next_1 : decode cX2_next 1 = .ok (.astore_n 1, 1) := dk_76 (dk_at dksX2_next_0 1 rfl rfl)
theorem dX2_next_2 : decode cX2_next 2 = .ok (.aload_n 0, 1) := dk_42 (dk_at dksX2_next_0 2 rfl rfl)
theorem dX2_next_3 : decode cX2_next 3 = .ok (.aload_n 0, 1) := dk_42 (dk_at dksX2_next_0 3 rfl rfl)
theorem dX2_next_4 : decode cX2_next 4 = .ok (.invokevirtual 123, 3) := dk_182 0 123 (dk_at dksX2_next_0 4 rfl rfl)
theorem dX2_next_7 : decode cX2_next 7 = .ok (.invokevirtual 126, 3) := dk_182 0 126 (dk_at dksX2_next_0 7 rfl rfl)
theorem dX2_next_10 : decode cX2_next 10 = .ok (.invokeinterface 130 1, 5) := by decide +kernel
theorem dX2_next_15 : decode cX2_next 15 = .ok (.astore_n 2, 1) := dk_77 (dk_at dksX2_next_0 15 rfl rfl)
theorem dX2_next_16 : decode cX2_next 16 = .ok (.aload_n 2, 1) := dk_44 (dk_at dksX2_next_0 16 rfl rfl)
theorem dX2_next_17 : decode cX2_next 17 = .ok (.invokeinterface 41 1, 5) := by decide +kernel
theorem dX2_next_22 : decode cX2_next 22 = .ok (.ifCond .eq 69, 3) := dk_153 0 69 (dk_at dksX2_next_1 0 rfl rfl)
theorem dX2_next_25 : decode cX2_next 25 = .ok (.aload_n 2, 1) := dk_44 (dk_at dksX2_next_1 3 rfl rfl)
theorem dX2_next_26 : decode cX2_next 26 = .ok (.invokeinterface 47 1, 5) := by decide +kernel
theorem dX2_next_31 : decode cX2_next 31 = .ok (.checkcast 51, 3) := dk_192 0 51 (dk_at dksX2_next_1 9 rfl rfl)
theorem dX2_next_34 : decode cX2_next 34 = .ok (.astore_n 3, 1) := dk_78 (dk_at dksX2_next_1 12 rfl rfl)
theorem dX2_next_35 : decode cX2_next 35 = .ok (.new 133, 3) := dk_187 0 133 (dk_at dksX2_next_1 13 rfl rfl)
theorem dX2_next_38 : decode cX2_next 38 = .ok (.dup, 1) := dk_89 (dk_at dksX2_next_1 16 rfl rfl)
theorem dX2_next_39 : decode cX2_next 39 = .ok (.aload_n 0, 1) := dk_42 (dk_at dksX2_next_1 17 rfl rfl)
theorem dX2_next_40 : decode cX2_next 40 = .ok (.aload_n 3, 1) := dk_45 (dk_at dksX2_next_1 18 rfl rfl)
theorem dX2_next_41 : decode cX2_next 41 = .ok (.invokespecial 135, 3) := dk_183 0 135 (dk_at dksX2_next_1 19 rfl rfl)
theorem dX2_next_44 : decode cX2_next 44 = .ok (.astore 4, 2) := dk_58 4 (dk_at dksX2_next_1 22 rfl rfl)
theorem dX2_next_46 : decode cX2_next 46 = .ok (.aload_n 3, 1) := dk_45 (dk_at dksX2_next_2 0 rfl rfl)
theorem dX2_next_47 : decode cX2_next 47 = .ok (.invokevirtual 136, 3) := dk_182 0 136 (dk_at dksX2_next_2 1 rfl rfl)
theorem dX2_next_50 : decode cX2_next 50 = .ok (.ifCond .ne 23, 3) := dk_154 0 23 (dk_at dksX2_next_2 4 rfl rfl)
theorem dX2_next_53 : decode cX2_next 53 = .ok (.aload_n 1, 1) := dk_43 (dk_at dksX2_next_2 7 rfl rfl)
theorem dX2_next_54 : decode cX2_next 54 = .ok (.ifnull 15, 3) := dk_198 0 15 (dk_at dksX2_next_2 8 rfl rfl)
theorem dX2_next_57 : decode cX2_next 57 = .ok (.aload 4, 2) := dk_25 4 (dk_at dksX2_next_2 11 rfl rfl)
theorem dX2_next_59 : decode cX2_next 59 = .ok (.invokevirtual 139, 3) := dk_182 0 139 (dk_at dksX2_next_2 13 rfl rfl)
theorem dX2_next_62 : decode cX2_next 62 = .ok (.aload_n 1, 1) := dk_43 (dk_at dksX2_next_2 16 rfl rfl)
theorem dX2_next_63 : decode cX2_next 63 = .ok (.invokevirtual 139, 3) := dk_182 0 139 (dk_at dksX2_next_2 17 rfl rfl)
theorem dX2_next_66 : decode cX2_next 66 = .ok (.if_icmp .le 7, 3) := dk_164 0 7 (dk_at dksX2_next_2 20 rfl rfl)
theorem dX2_next_69 : decode cX2_next 69 = .ok (.iconst 1, 1) := dk_4 (dk_at dksX2_next_2 23 rfl rfl)
theorem dX2_next_70 : decode cX2_next 70 = .ok (.goto 4, 3) := dk_167 0 4 (dk_at dksX2_next_3 0 rfl rfl)
theorem dX2_next_73 : decode cX2_next 73 = .ok (.iconst 0, 1) := dk_3 (dk_at dksX2_next_3 3 rfl rfl)
theorem dX2_next_74 : decode cX2_next 74 = .ok (.istore 5, 2) := dk_54 5 (dk_at dksX2_next_3 4 rfl rfl)
theorem dX2_next_76 : decode cX2_next 76 = .ok (.iload 5, 2) := dk_21 5 (dk_at dksX2_next_3 6 rfl rfl)
theorem dX2_next_78 : decode cX2_next 78 = .ok (.ifCond .eq 8, 3) := dk_153 0 8 (dk_at dksX2_next_3 8 rfl rfl)
theorem dX2_next_81 : decode cX2_next 81 = .ok (.aload 4, 2) := dk_25 4 (dk_at dksX2_next_3 11 rfl rfl)
theorem dX2_next_83 : decode cX2_next 83 = .ok (.goto 4, 3) := dk_167 0 4 (dk_at dksX2_next_3 13 rfl rfl)
theorem dX2_next_86 : decode cX2_next 86 = .ok (.aload_n 1, 1) := dk_43 (dk_at dksX2_next_3 16 rfl rfl)
theorem dX2_next_87 : decode cX2_next 87 = .ok (.astore_n 1, 1) := dk_76 (dk_at dksX2_next_3 17 rfl rfl)
theorem dX2_next_88 : decode cX2_next 88 = .ok (.goto (-72), 3) := dk_167 255 184 (dk_at dksX2_next_3 18 rfl rfl)
theorem dX2_next_91 : decode cX2_next 91 = .ok (.aload_n 1, 1) := dk_43 (dk_at dksX2_next_3 21 rfl rfl)
theorem dX2_next_92 : decode cX2_next 92 = .ok (.ifnonnull 7, 3) := dk_199 0 7 (dk_at dksX2_next_4 0 rfl rfl)
theorem dX2_next_95 : decode cX2_next 95 = .ok (.aconst_null, 1) := dk_1 (dk_at dksX2_next_4 3 rfl rfl)
theorem dX2_next_96 : decode cX2_next 96 = .ok (.goto 7, 3) := dk_167 0 7 (dk_at dksX2_next_4 4 rfl rfl)
theorem dX2_next_99 : decode cX2_next 99 = .ok (.aload_n 1, 1) := dk_43 (dk_at dksX2_next_4 7 rfl rfl)
theorem dX2_next_100 : decode cX2_next 100 = .ok (.getfield 142, 3) := dk_180 0 142 (dk_at dksX2_next_4 8 rfl rfl)
theorem dX2_next_103 : decode cX2_next 103 = .ok (.areturn, 1) := dk_176 (dk_at dksX2_next_4 11 rfl rfl)
abbrev cX2_bestWeight : ByteArray := prog_13_method_19_code
def yX2_bestWeight : MethodName := ⟨RX2, "bestWeight", "()LBrassInspector$Brass;"⟩
def dkwX2_bestWeight_2 : List UInt8 := [167, 0, 4, 43, 76, 167, 255, 219, 43, 176]
abbrev dktX2_bestWeight_2 : List UInt8 := dkwX2_bestWeight_2 ++ []
def dkwX2_bestWeight_1 : List UInt8 := [185, 0, 47, 1, 0, 192, 0, 66, 78, 43, 198, 0, 11, 45, 43, 182, 0, 119, 153, 0, 7, 45]
abbrev dktX2_bestWeight_1 : List UInt8 := dkwX2_bestWeight_1 ++ dktX2_bestWeight_2
def dkwX2_bestWeight_0 : List UInt8 := [1, 76, 42, 180, 0, 25, 185, 0, 35, 1, 0, 77, 44, 185, 0, 41, 1, 0, 153, 0, 34, 44]
abbrev dktX2_bestWeight_0 : List UInt8 := dkwX2_bestWeight_0 ++ dktX2_bestWeight_1
theorem dksX2_bestWeight_0 : cX2_bestWeight.data.toList.drop 0 = dktX2_bestWeight_0 := by decide +kernel
theorem dksX2_bestWeight_1 : cX2_bestWeight.data.toList.drop 22 = dktX2_bestWeight_1 := dk_seg dksX2_bestWeight_0 22 rfl rfl
theorem dksX2_bestWeight_2 : cX2_bestWeight.data.toList.drop 44 = dktX2_bestWeight_2 := dk_seg dksX2_bestWeight_1 22 rfl rfl
theorem dX2_bestWeight_0 : decode cX2_bestWeight 0 = .ok (.aconst_null, 1) := dk_1 (dk_at dksX2_bestWeight_0 0 rfl rfl)
theorem dX2_bestWeight_1 : decode cX2_bestWeight 1 = .ok (.astore_n 1, 1) := dk_76 (dk_at dksX2_bestWeight_0 1 rfl rfl)
theorem dX2_bestWeight_2 : decode cX2_bestWeight 2 = .ok (.aload_n 0, 1) := dk_42 (dk_at dksX2_bestWeight_0 2 rfl rfl)
theorem dX2_bestWeight_3 : decode cX2_bestWeight 3 = .ok (.getfield 25, 3) := dk_180 0 25 (dk_at dksX2_bestWeight_0 3 rfl rfl)
theorem dX2_bestWeight_6 : decode cX2_bestWeight 6 = .ok (.invokeinterface 35 1, 5) := by decide +kernel
theorem dX2_bestWeight_11 : decode cX2_bestWeight 11 = .ok (.astore_n 2, 1) := dk_77 (dk_at dksX2_bestWeight_0 11 rfl rfl)
theorem dX2_bestWeight_12 : decode cX2_bestWeight 12 = .ok (.aload_n 2, 1) := dk_44 (dk_at dksX2_bestWeight_0 12 rfl rfl)
theorem dX2_bestWeight_13 : decode cX2_bestWeight 13 = .ok (.invokeinterface 41 1, 5) := by decide +kernel
theorem dX2_bestWeight_18 : decode cX2_bestWeight 18 = .ok (.ifCond .eq 34, 3) := dk_153 0 34 (dk_at dksX2_bestWeight_0 18 rfl rfl)
theorem dX2_bestWeight_21 : decode cX2_bestWeight 21 = .ok (.aload_n 2, 1) := dk_44 (dk_at dksX2_bestWeight_0 21 rfl rfl)
theorem dX2_bestWeight_22 : decode cX2_bestWeight 22 = .ok (.invokeinterface 47 1, 5) := by decide +kernel
theorem dX2_bestWeight_27 : decode cX2_bestWeight 27 = .ok (.checkcast 66, 3) := dk_192 0 66 (dk_at dksX2_bestWeight_1 5 rfl rfl)
theorem dX2_bestWeight_30 : decode cX2_bestWeight 30 = .ok (.astore_n 3, 1) := dk_78 (dk_at dksX2_bestWeight_1 8 rfl rfl)
theorem dX2_bestWeight_31 : decode cX2_bestWeight 31 = .ok (.aload_n 1, 1) := dk_43 (dk_at dksX2_bestWeight_1 9 rfl rfl)
theorem dX2_bestWeight_32 : decode cX2_bestWeight 32 = .ok (.ifnull 11, 3) := dk_198 0 11 (dk_at dksX2_bestWeight_1 10 rfl rfl)
theorem dX2_bestWeight_35 : decode cX2_bestWeight 35 = .ok (.aload_n 3, 1) := dk_45 (dk_at dksX2_bestWeight_1 13 rfl rfl)
theorem dX2_bestWeight_36 : decode cX2_bestWeight 36 = .ok (.aload_n 1, 1) := dk_43 (dk_at dksX2_bestWeight_1 14 rfl rfl)
theorem dX2_bestWeight_37 : decode cX2_bestWeight 37 = .ok (.invokevirtual 119, 3) := dk_182 0 119 (dk_at dksX2_bestWeight_1 15 rfl rfl)
theorem dX2_bestWeight_40 : decode cX2_bestWeight 40 = .ok (.ifCond .eq 7, 3) := dk_153 0 7 (dk_at dksX2_bestWeight_1 18 rfl rfl)
theorem dX2_bestWeight_43 : decode cX2_bestWeight 43 = .ok (.aload_n 3, 1) := dk_45 (dk_at dksX2_bestWeight_1 21 rfl rfl)
theorem dX2_bestWeight_44 : decode cX2_bestWeight 44 = .ok (.goto 4, 3) := dk_167 0 4 (dk_at dksX2_bestWeight_2 0 rfl rfl)
theorem dX2_bestWeight_47 : decode cX2_bestWeight 47 = .ok (.aload_n 1, 1) := dk_43 (dk_at dksX2_bestWeight_2 3 rfl rfl)
theorem dX2_bestWeight_48 : decode cX2_bestWeight 48 = .ok (.astore_n 1, 1) := dk_76 (dk_at dksX2_bestWeight_2 4 rfl rfl)
theorem dX2_bestWeight_49 : decode cX2_bestWeight 49 = .ok (.goto (-37), 3) := dk_167 255 219 (dk_at dksX2_bestWeight_2 5 rfl rfl)
theorem dX2_bestWeight_52 : decode cX2_bestWeight 52 = .ok (.aload_n 1, 1) := dk_43 (dk_at dksX2_bestWeight_2 8 rfl rfl)
theorem dX2_bestWeight_53 : decode cX2_bestWeight 53 = .ok (.areturn, 1) := dk_176 (dk_at dksX2_bestWeight_2 9 rfl rfl)
abbrev cX2_falseIn : ByteArray := prog_13_method_27_code
def yX2_falseIn : MethodName := ⟨RX2, "falseIn", "(I)I"⟩
def dkwX2_falseIn_1 : List UInt8 := [182, 0, 146, 182, 0, 201, 132, 2, 1, 167, 255, 226, 2, 172]
abbrev dktX2_falseIn_1 : List UInt8 := dkwX2_falseIn_1 ++ []
def dkwX2_falseIn_0 : List UInt8 := [3, 61, 28, 16, 60, 163, 0, 30, 42, 27, 182, 0, 146, 182, 0, 210, 153, 0, 5, 28, 172, 42, 27]
abbrev dktX2_falseIn_0 : List UInt8 := dkwX2_falseIn_0 ++ dktX2_falseIn_1
theorem dksX2_falseIn_0 : cX2_falseIn.data.toList.drop 0 = dktX2_falseIn_0 := by decide +kernel
theorem dksX2_falseIn_1 : cX2_falseIn.data.toList.drop 23 = dktX2_falseIn_1 := dk_seg dksX2_falseIn_0 23 rfl rfl
theorem dX2_falseIn_0 : decode cX2_falseIn 0 = .ok (.iconst 0, 1) := dk_3 (dk_at dksX2_falseIn_0 0 rfl rfl)
theorem dX2_falseIn_1 : decode cX2_falseIn 1 = .ok (.istore_n 2, 1) := dk_61 (dk_at dksX2_falseIn_0 1 rfl rfl)
theorem dX2_falseIn_2 : decode cX2_falseIn 2 = .ok (.iload_n 2, 1) := dk_28 (dk_at dksX2_falseIn_0 2 rfl rfl)
theorem dX2_falseIn_3 : decode cX2_falseIn 3 = .ok (.bipush 60, 2) := dk_16 60 (dk_at dksX2_falseIn_0 3 rfl rfl)
theorem dX2_falseIn_5 : decode cX2_falseIn 5 = .ok (.if_icmp .gt 30, 3) := dk_163 0 30 (dk_at dksX2_falseIn_0 5 rfl rfl)
theorem dX2_falseIn_8 : decode cX2_falseIn 8 = .ok (.aload_n 0, 1) := dk_42 (dk_at dksX2_falseIn_0 8 rfl rfl)
theorem dX2_falseIn_9 : decode cX2_falseIn 9 = .ok (.iload_n 1, 1) := dk_27 (dk_at dksX2_falseIn_0 9 rfl rfl)
theorem dX2_falseIn_10 : decode cX2_falseIn 10 = .ok (.invokevirtual 146, 3) := dk_182 0 146 (dk_at dksX2_falseIn_0 10 rfl rfl)
theorem dX2_falseIn_13 : decode cX2_falseIn 13 = .ok (.invokevirtual 210, 3) := dk_182 0 210 (dk_at dksX2_falseIn_0 13 rfl rfl)
theorem dX2_falseIn_16 : decode cX2_falseIn 16 = .ok (.ifCond .eq 5, 3) := dk_153 0 5 (dk_at dksX2_falseIn_0 16 rfl rfl)
theorem dX2_falseIn_19 : decode cX2_falseIn 19 = .ok (.iload_n 2, 1) := dk_28 (dk_at dksX2_falseIn_0 19 rfl rfl)
theorem dX2_falseIn_20 : decode cX2_falseIn 20 = .ok (.ireturn, 1) := dk_172 (dk_at dksX2_falseIn_0 20 rfl rfl)
theorem dX2_falseIn_21 : decode cX2_falseIn 21 = .ok (.aload_n 0, 1) := dk_42 (dk_at dksX2_falseIn_0 21 rfl rfl)
theorem dX2_falseIn_22 : decode cX2_falseIn 22 = .ok (.iload_n 1, 1) := dk_27 (dk_at dksX2_falseIn_0 22 rfl rfl)
theorem dX2_falseIn_23 : decode cX2_falseIn 23 = .ok (.invokevirtual 146, 3) := dk_182 0 146 (dk_at dksX2_falseIn_1 0 rfl rfl)
theorem dX2_falseIn_26 : decode cX2_falseIn 26 = .ok (.invokevirtual 201, 3) := dk_182 0 201 (dk_at dksX2_falseIn_1 3 rfl rfl)
theorem dX2_falseIn_29 : decode cX2_falseIn 29 = .ok (.iinc 2 1, 3) := dk_132 2 1 (dk_at dksX2_falseIn_1 6 rfl rfl)
theorem dX2_falseIn_32 : decode cX2_falseIn 32 = .ok (.goto (-30), 3) := dk_167 255 226 (dk_at dksX2_falseIn_1 9 rfl rfl)
theorem dX2_falseIn_35 : decode cX2_falseIn 35 = .ok (.iconst (-1), 1) := dk_2 (dk_at dksX2_falseIn_1 12 rfl rfl)
theorem dX2_falseIn_36 : decode cX2_falseIn 36 = .ok (.ireturn, 1) := dk_172 (dk_at dksX2_falseIn_1 13 rfl rfl)
abbrev cX2_seals : ByteArray := prog_13_method_30_code
def yX2_seals : MethodName := ⟨RX2, "seals", "()I"⟩
def dkwX2_seals_1 : List UInt8 := [172]
abbrev dktX2_seals_1 : List UInt8 := dkwX2_seals_1 ++ []
def dkwX2_seals_0 : List UInt8 := [3, 60, 3, 61, 28, 8, 162, 0, 17, 27, 42, 28, 182, 0, 216, 96, 60, 132, 2, 1, 167, 255, 240, 27]
abbrev dktX2_seals_0 : List UInt8 := dkwX2_seals_0 ++ dktX2_seals_1
theorem dksX2_seals_0 : cX2_seals.data.toList.drop 0 = dktX2_seals_0 := by decide +kernel
theorem dksX2_seals_1 : cX2_seals.data.toList.drop 24 = dktX2_seals_1 := dk_seg dksX2_seals_0 24 rfl rfl
theorem dX2_seals_0 : decode cX2_seals 0 = .ok (.iconst 0, 1) := dk_3 (dk_at dksX2_seals_0 0 rfl rfl)
theorem dX2_seals_1 : decode cX2_seals 1 = .ok (.istore_n 1, 1) := dk_60 (dk_at dksX2_seals_0 1 rfl rfl)
theorem dX2_seals_2 : decode cX2_seals 2 = .ok (.iconst 0, 1) := dk_3 (dk_at dksX2_seals_0 2 rfl rfl)
theorem dX2_seals_3 : decode cX2_seals 3 = .ok (.istore_n 2, 1) := dk_61 (dk_at dksX2_seals_0 3 rfl rfl)
theorem dX2_seals_4 : decode cX2_seals 4 = .ok (.iload_n 2, 1) := dk_28 (dk_at dksX2_seals_0 4 rfl rfl)
theorem dX2_seals_5 : decode cX2_seals 5 = .ok (.iconst 5, 1) := dk_8 (dk_at dksX2_seals_0 5 rfl rfl)
theorem dX2_seals_6 : decode cX2_seals 6 = .ok (.if_icmp .ge 17, 3) := dk_162 0 17 (dk_at dksX2_seals_0 6 rfl rfl)
theorem dX2_seals_9 : decode cX2_seals 9 = .ok (.iload_n 1, 1) := dk_27 (dk_at dksX2_seals_0 9 rfl rfl)
theorem dX2_seals_10 : decode cX2_seals 10 = .ok (.aload_n 0, 1) := dk_42 (dk_at dksX2_seals_0 10 rfl rfl)
theorem dX2_seals_11 : decode cX2_seals 11 = .ok (.iload_n 2, 1) := dk_28 (dk_at dksX2_seals_0 11 rfl rfl)
theorem dX2_seals_12 : decode cX2_seals 12 = .ok (.invokevirtual 216, 3) := dk_182 0 216 (dk_at dksX2_seals_0 12 rfl rfl)
theorem dX2_seals_15 : decode cX2_seals 15 = .ok (.iadd, 1) := dk_96 (dk_at dksX2_seals_0 15 rfl rfl)
theorem dX2_seals_16 : decode cX2_seals 16 = .ok (.istore_n 1, 1) := dk_60 (dk_at dksX2_seals_0 16 rfl rfl)
theorem dX2_seals_17 : decode cX2_seals 17 = .ok (.iinc 2 1, 3) := dk_132 2 1 (dk_at dksX2_seals_0 17 rfl rfl)
theorem dX2_seals_20 : decode cX2_seals 20 = .ok (.goto (-16), 3) := dk_167 255 240 (dk_at dksX2_seals_0 20 rfl rfl)
theorem dX2_seals_23 : decode cX2_seals 23 = .ok (.iload_n 1, 1) := dk_27 (dk_at dksX2_seals_0 23 rfl rfl)
theorem dX2_seals_24 : decode cX2_seals 24 = .ok (.ireturn, 1) := dk_172 (dk_at dksX2_seals_1 0 rfl rfl)
abbrev cX2_barred : ByteArray := prog_13_method_31_code
def yX2_barred : MethodName := ⟨RX2, "barred", "()I"⟩
def dkwX2_barred_2 : List UInt8 := [167, 255, 222, 27, 172]
abbrev dktX2_barred_2 : List UInt8 := dkwX2_barred_2 ++ []
def dkwX2_barred_1 : List UInt8 := [185, 0, 47, 1, 0, 192, 0, 51, 78, 27, 45, 182, 0, 195, 153, 0, 7, 4, 167, 0, 4, 3, 96, 60]
abbrev dktX2_barred_1 : List UInt8 := dkwX2_barred_1 ++ dktX2_barred_2
def dkwX2_barred_0 : List UInt8 := [3, 60, 42, 180, 0, 21, 185, 0, 35, 1, 0, 77, 44, 185, 0, 41, 1, 0, 153, 0, 31, 44]
abbrev dktX2_barred_0 : List UInt8 := dkwX2_barred_0 ++ dktX2_barred_1
theorem dksX2_barred_0 : cX2_barred.data.toList.drop 0 = dktX2_barred_0 := by decide +kernel
theorem dksX2_barred_1 : cX2_barred.data.toList.drop 22 = dktX2_barred_1 := dk_seg dksX2_barred_0 22 rfl rfl
theorem dksX2_barred_2 : cX2_barred.data.toList.drop 46 = dktX2_barred_2 := dk_seg dksX2_barred_1 24 rfl rfl
theorem dX2_barred_0 : decode cX2_barred 0 = .ok (.iconst 0, 1) := dk_3 (dk_at dksX2_barred_0 0 rfl rfl)
theorem dX2_barred_1 : decode cX2_barred 1 = .ok (.istore_n 1, 1) := dk_60 (dk_at dksX2_barred_0 1 rfl rfl)
theorem dX2_barred_2 : decode cX2_barred 2 = .ok (.aload_n 0, 1) := dk_42 (dk_at dksX2_barred_0 2 rfl rfl)
theorem dX2_barred_3 : decode cX2_barred 3 = .ok (.getfield 21, 3) := dk_180 0 21 (dk_at dksX2_barred_0 3 rfl rfl)
theorem dX2_barred_6 : decode cX2_barred 6 = .ok (.invokeinterface 35 1, 5) := by decide +kernel
theorem dX2_barred_11 : decode cX2_barred 11 = .ok (.astore_n 2, 1) := dk_77 (dk_at dksX2_barred_0 11 rfl rfl)
theorem dX2_barred_12 : decode cX2_barred 12 = .ok (.aload_n 2, 1) := dk_44 (dk_at dksX2_barred_0 12 rfl rfl)
theorem dX2_barred_13 : decode cX2_barred 13 = .ok (.invokeinterface 41 1, 5) := by decide +kernel
theorem dX2_barred_18 : decode cX2_barred 18 = .ok (.ifCond .eq 31, 3) := dk_153 0 31 (dk_at dksX2_barred_0 18 rfl rfl)
theorem dX2_barred_21 : decode cX2_barred 21 = .ok (.aload_n 2, 1) := dk_44 (dk_at dksX2_barred_0 21 rfl rfl)
theorem dX2_barred_22 : decode cX2_barred 22 = .ok (.invokeinterface 47 1, 5) := by decide +kernel
theorem dX2_barred_27 : decode cX2_barred 27 = .ok (.checkcast 51, 3) := dk_192 0 51 (dk_at dksX2_barred_1 5 rfl rfl)
theorem dX2_barred_30 : decode cX2_barred 30 = .ok (.astore_n 3, 1) := dk_78 (dk_at dksX2_barred_1 8 rfl rfl)
theorem dX2_barred_31 : decode cX2_barred 31 = .ok (.iload_n 1, 1) := dk_27 (dk_at dksX2_barred_1 9 rfl rfl)
theorem dX2_barred_32 : decode cX2_barred 32 = .ok (.aload_n 3, 1) := dk_45 (dk_at dksX2_barred_1 10 rfl rfl)
theorem dX2_barred_33 : decode cX2_barred 33 = .ok (.invokevirtual 195, 3) := dk_182 0 195 (dk_at dksX2_barred_1 11 rfl rfl)
theorem dX2_barred_36 : decode cX2_barred 36 = .ok (.ifCond .eq 7, 3) := dk_153 0 7 (dk_at dksX2_barred_1 14 rfl rfl)
theorem dX2_barred_39 : decode cX2_barred 39 = .ok (.iconst 1, 1) := dk_4 (dk_at dksX2_barred_1 17 rfl rfl)
theorem dX2_barred_40 : decode cX2_barred 40 = .ok (.goto 4, 3) := dk_167 0 4 (dk_at dksX2_barred_1 18 rfl rfl)
theorem dX2_barred_43 : decode cX2_barred 43 = .ok (.iconst 0, 1) := dk_3 (dk_at dksX2_barred_1 21 rfl rfl)
theorem dX2_barred_44 : decode cX2_barred 44 = .ok (.iadd, 1) := dk_96 (dk_at dksX2_barred_1 22 rfl rfl)
theorem dX2_barred_45 : decode cX2_barred 45 = .ok (.istore_n 1, 1) := dk_60 (dk_at dksX2_barred_1 23 rfl rfl)
theorem dX2_barred_46 : decode cX2_barred 46 = .ok (.goto (-34), 3) := dk_167 255 222 (dk_at dksX2_barred_2 0 rfl rfl)
theorem dX2_barred_49 : decode cX2_barred 49 = .ok (.iload_n 1, 1) := dk_27 (dk_at dksX2_barred_2 3 rfl rfl)
theorem dX2_barred_50 : decode cX2_barred 50 = .ok (.ireturn, 1) := dk_172 (dk_at dksX2_barred_2 4 rfl rfl)
abbrev cX2_inspections : ByteArray := prog_13_method_13_code
def yX2_inspections : MethodName := ⟨RX2, "inspections", "()I"⟩
theorem dX2_inspections_0 : decode cX2_inspections 0 = .ok (.aload_n 0, 1) := by decide +kernel
theorem dX2_inspections_1 : decode cX2_inspections 1 = .ok (.getfield 76, 3) := by decide +kernel
theorem dX2_inspections_4 : decode cX2_inspections 4 = .ok (.ireturn, 1) := by decide +kernel
abbrev cX2_finesOfTraders : ByteArray := prog_13_method_32_code
def yX2_finesOfTraders : MethodName := ⟨RX2, "finesOfTraders", "()I"⟩
def dkwX2_finesOfTraders_1 : List UInt8 := [185, 0, 47, 1, 0, 192, 0, 51, 78, 27, 45, 182, 0, 219, 96, 60, 167, 255, 230, 27, 172]
abbrev dktX2_finesOfTraders_1 : List UInt8 := dkwX2_finesOfTraders_1 ++ []
def dkwX2_finesOfTraders_0 : List UInt8 := [3, 60, 42, 180, 0, 21, 185, 0, 35, 1, 0, 77, 44, 185, 0, 41, 1, 0, 153, 0, 23, 44]
abbrev dktX2_finesOfTraders_0 : List UInt8 := dkwX2_finesOfTraders_0 ++ dktX2_finesOfTraders_1
theorem dksX2_finesOfTraders_0 : cX2_finesOfTraders.data.toList.drop 0 = dktX2_finesOfTraders_0 := by decide +kernel
theorem dksX2_finesOfTraders_1 : cX2_finesOfTraders.data.toList.drop 22 = dktX2_finesOfTraders_1 := dk_seg dksX2_finesOfTraders_0 22 rfl rfl
theorem dX2_finesOfTraders_0 : decode cX2_finesOfTraders 0 = .ok (.iconst 0, 1) := dk_3 (dk_at dksX2_finesOfTraders_0 0 rfl rfl)
theorem dX2_finesOfTraders_1 : decode cX2_finesOfTraders 1 = .ok (.istore_n 1, 1) := dk_60 (dk_at dksX2_finesOfTraders_0 1 rfl rfl)
theorem dX2_finesOfTraders_2 : decode cX2_finesOfTraders 2 = .ok (.aload_n 0, 1) := dk_42 (dk_at dksX2_finesOfTraders_0 2 rfl rfl)
theorem dX2_finesOfTraders_3 : decode cX2_finesOfTraders 3 = .ok (.getfield 21, 3) := dk_180 0 21 (dk_at dksX2_finesOfTraders_0 3 rfl rfl)
theorem dX2_finesOfTraders_6 : decode cX2_finesOfTraders 6 = .ok (.invokeinterface 35 1, 5) := by decide +kernel
theorem dX2_finesOfTraders_11 : decode cX2_finesOfTraders 11 = .ok (.astore_n 2, 1) := dk_77 (dk_at dksX2_finesOfTraders_0 11 rfl rfl)
theorem dX2_finesOfTraders_12 : decode cX2_finesOfTraders 12 = .ok (.aload_n 2, 1) := dk_44 (dk_at dksX2_finesOfTraders_0 12 rfl rfl)
theorem dX2_finesOfTraders_13 : decode cX2_finesOfTraders 13 = .ok (.invokeinterface 41 1, 5) := by decide +kernel
theorem dX2_finesOfTraders_18 : decode cX2_finesOfTraders 18 = .ok (.ifCond .eq 23, 3) := dk_153 0 23 (dk_at dksX2_finesOfTraders_0 18 rfl rfl)
theorem dX2_finesOfTraders_21 : decode cX2_finesOfTraders 21 = .ok (.aload_n 2, 1) := dk_44 (dk_at dksX2_finesOfTraders_0 21 rfl rfl)
theorem dX2_finesOfTraders_22 : decode cX2_finesOfTraders 22 = .ok (.invokeinterface 47 1, 5) := by decide +kernel
theorem dX2_finesOfTraders_27 : decode cX2_finesOfTraders 27 = .ok (.checkcast 51, 3) := dk_192 0 51 (dk_at dksX2_finesOfTraders_1 5 rfl rfl)
theorem dX2_finesOfTraders_30 : decode cX2_finesOfTraders 30 = .ok (.astore_n 3, 1) := dk_78 (dk_at dksX2_finesOfTraders_1 8 rfl rfl)
theorem dX2_finesOfTraders_31 : decode cX2_finesOfTraders 31 = .ok (.iload_n 1, 1) := dk_27 (dk_at dksX2_finesOfTraders_1 9 rfl rfl)
theorem dX2_finesOfTraders_32 : decode cX2_finesOfTraders 32 = .ok (.aload_n 3, 1) := dk_45 (dk_at dksX2_finesOfTraders_1 10 rfl rfl)
theorem dX2_finesOfTraders_33 : decode cX2_finesOfTraders 33 = .ok (.invokevirtual 219, 3) := dk_182 0 219 (dk_at dksX2_finesOfTraders_1 11 rfl rfl)
theorem dX2_finesOfTraders_36 : decode cX2_finesOfTraders 36 = .ok (.iadd, 1) := dk_96 (dk_at dksX2_finesOfTraders_1 14 rfl rfl)
theorem dX2_finesOfTraders_37 : decode cX2_finesOfTraders 37 = .ok (.istore_n 1, 1) := dk_60 (dk_at dksX2_finesOfTraders_1 15 rfl rfl)
theorem dX2_finesOfTraders_38 : decode cX2_finesOfTraders 38 = .ok (.goto (-26), 3) := dk_167 255 230 (dk_at dksX2_finesOfTraders_1 16 rfl rfl)
theorem dX2_finesOfTraders_41 : decode cX2_finesOfTraders 41 = .ok (.iload_n 1, 1) := dk_27 (dk_at dksX2_finesOfTraders_1 19 rfl rfl)
theorem dX2_finesOfTraders_42 : decode cX2_finesOfTraders 42 = .ok (.ireturn, 1) := dk_172 (dk_at dksX2_finesOfTraders_1 20 rfl rfl)
abbrev cX2_ofTraders : ByteArray := prog_13_method_33_code
def yX2_ofTraders : MethodName := ⟨RX2, "ofTraders", "(I)I"⟩
def dkwX2_ofTraders_3 : List UInt8 := [167, 0, 8, 25, 4, 182, 0, 167, 96, 61, 167, 255, 190, 28, 172]
abbrev dktX2_ofTraders_3 : List UInt8 := dkwX2_ofTraders_3 ++ []
def dkwX2_ofTraders_2 : List UInt8 := [4, 160, 0, 11, 25, 4, 182, 0, 183, 167, 0, 21, 27, 5, 160, 0, 11, 25, 4, 182, 0, 176]
abbrev dktX2_ofTraders_2 : List UInt8 := dkwX2_ofTraders_2 ++ dktX2_ofTraders_3
def dkwX2_ofTraders_1 : List UInt8 := [185, 0, 47, 1, 0, 192, 0, 51, 58, 4, 28, 27, 154, 0, 11, 25, 4, 182, 0, 170, 167, 0, 34, 27]
abbrev dktX2_ofTraders_1 : List UInt8 := dkwX2_ofTraders_1 ++ dktX2_ofTraders_2
def dkwX2_ofTraders_0 : List UInt8 := [3, 61, 42, 180, 0, 21, 185, 0, 35, 1, 0, 78, 45, 185, 0, 41, 1, 0, 153, 0, 63, 45]
abbrev dktX2_ofTraders_0 : List UInt8 := dkwX2_ofTraders_0 ++ dktX2_ofTraders_1
theorem dksX2_ofTraders_0 : cX2_ofTraders.data.toList.drop 0 = dktX2_ofTraders_0 := by decide +kernel
theorem dksX2_ofTraders_1 : cX2_ofTraders.data.toList.drop 22 = dktX2_ofTraders_1 := dk_seg dksX2_ofTraders_0 22 rfl rfl
theorem dksX2_ofTraders_2 : cX2_ofTraders.data.toList.drop 46 = dktX2_ofTraders_2 := dk_seg dksX2_ofTraders_1 24 rfl rfl
theorem dksX2_ofTraders_3 : cX2_ofTraders.data.toList.drop 68 = dktX2_ofTraders_3 := dk_seg dksX2_ofTraders_2 22 rfl rfl
theorem dX2_ofTraders_0 : decode cX2_ofTraders 0 = .ok (.iconst 0, 1) := dk_3 (dk_at dksX2_ofTraders_0 0 rfl rfl)
theorem dX2_ofTraders_1 : decode cX2_ofTraders 1 = .ok (.istore_n 2, 1) := dk_61 (dk_at dksX2_ofTraders_0 1 rfl rfl)
theorem dX2_ofTraders_2 : decode cX2_ofTraders 2 = .ok (.aload_n 0, 1) := dk_42 (dk_at dksX2_ofTraders_0 2 rfl rfl)
theorem dX2_ofTraders_3 : decode cX2_ofTraders 3 = .ok (.getfield 21, 3) := dk_180 0 21 (dk_at dksX2_ofTraders_0 3 rfl rfl)
theorem dX2_ofTraders_6 : decode cX2_ofTraders 6 = .ok (.invokeinterface 35 1, 5) := by decide +kernel
theorem dX2_ofTraders_11 : decode cX2_ofTraders 11 = .ok (.astore_n 3, 1) := dk_78 (dk_at dksX2_ofTraders_0 11 rfl rfl)
theorem dX2_ofTraders_12 : decode cX2_ofTraders 12 = .ok (.aload_n 3, 1) := dk_45 (dk_at dksX2_ofTraders_0 12 rfl rfl)
theorem dX2_ofTraders_13 : decode cX2_ofTraders 13 = .ok (.invokeinterface 41 1, 5) := by decide +kernel
theorem dX2_ofTraders_18 : decode cX2_ofTraders 18 = .ok (.ifCond .eq 63, 3) := dk_153 0 63 (dk_at dksX2_ofTraders_0 18 rfl rfl)
theorem dX2_ofTraders_21 : decode cX2_ofTraders 21 = .ok (.aload_n 3, 1) := dk_45 (dk_at dksX2_ofTraders_0 21 rfl rfl)
theorem dX2_ofTraders_22 : decode cX2_ofTraders 22 = .ok (.invokeinterface 47 1, 5) := by decide +kernel
theorem dX2_ofTraders_27 : decode cX2_ofTraders 27 = .ok (.checkcast 51, 3) := dk_192 0 51 (dk_at dksX2_ofTraders_1 5 rfl rfl)
theorem dX2_ofTraders_30 : decode cX2_ofTraders 30 = .ok (.astore 4, 2) := dk_58 4 (dk_at dksX2_ofTraders_1 8 rfl rfl)
theorem dX2_ofTraders_32 : decode cX2_ofTraders 32 = .ok (.iload_n 2, 1) := dk_28 (dk_at dksX2_ofTraders_1 10 rfl rfl)
theorem dX2_ofTraders_33 : decode cX2_ofTraders 33 = .ok (.iload_n 1, 1) := dk_27 (dk_at dksX2_ofTraders_1 11 rfl rfl)
theorem dX2_ofTraders_34 : decode cX2_ofTraders 34 = .ok (.ifCond .ne 11, 3) := dk_154 0 11 (dk_at dksX2_ofTraders_1 12 rfl rfl)
theorem dX2_ofTraders_37 : decode cX2_ofTraders 37 = .ok (.aload 4, 2) := dk_25 4 (dk_at dksX2_ofTraders_1 15 rfl rfl)
theorem dX2_ofTraders_39 : decode cX2_ofTraders 39 = .ok (.invokevirtual 170, 3) := dk_182 0 170 (dk_at dksX2_ofTraders_1 17 rfl rfl)
theorem dX2_ofTraders_42 : decode cX2_ofTraders 42 = .ok (.goto 34, 3) := dk_167 0 34 (dk_at dksX2_ofTraders_1 20 rfl rfl)
theorem dX2_ofTraders_45 : decode cX2_ofTraders 45 = .ok (.iload_n 1, 1) := dk_27 (dk_at dksX2_ofTraders_1 23 rfl rfl)
theorem dX2_ofTraders_46 : decode cX2_ofTraders 46 = .ok (.iconst 1, 1) := dk_4 (dk_at dksX2_ofTraders_2 0 rfl rfl)
theorem dX2_ofTraders_47 : decode cX2_ofTraders 47 = .ok (.if_icmp .ne 11, 3) := dk_160 0 11 (dk_at dksX2_ofTraders_2 1 rfl rfl)
theorem dX2_ofTraders_50 : decode cX2_ofTraders 50 = .ok (.aload 4, 2) := dk_25 4 (dk_at dksX2_ofTraders_2 4 rfl rfl)
theorem dX2_ofTraders_52 : decode cX2_ofTraders 52 = .ok (.invokevirtual 183, 3) := dk_182 0 183 (dk_at dksX2_ofTraders_2 6 rfl rfl)
theorem dX2_ofTraders_55 : decode cX2_ofTraders 55 = .ok (.goto 21, 3) := dk_167 0 21 (dk_at dksX2_ofTraders_2 9 rfl rfl)
theorem dX2_ofTraders_58 : decode cX2_ofTraders 58 = .ok (.iload_n 1, 1) := dk_27 (dk_at dksX2_ofTraders_2 12 rfl rfl)
theorem dX2_ofTraders_59 : decode cX2_ofTraders 59 = .ok (.iconst 2, 1) := dk_5 (dk_at dksX2_ofTraders_2 13 rfl rfl)
theorem dX2_ofTraders_60 : decode cX2_ofTraders 60 = .ok (.if_icmp .ne 11, 3) := dk_160 0 11 (dk_at dksX2_ofTraders_2 14 rfl rfl)
theorem dX2_ofTraders_63 : decode cX2_ofTraders 63 = .ok (.aload 4, 2) := dk_25 4 (dk_at dksX2_ofTraders_2 17 rfl rfl)
theorem dX2_ofTraders_65 : decode cX2_ofTraders 65 = .ok (.invokevirtual 176, 3) := dk_182 0 176 (dk_at dksX2_ofTraders_2 19 rfl rfl)
theorem dX2_ofTraders_68 : decode cX2_ofTraders 68 = .ok (.goto 8, 3) := dk_167 0 8 (dk_at dksX2_ofTraders_3 0 rfl rfl)
theorem dX2_ofTraders_71 : decode cX2_ofTraders 71 = .ok (.aload 4, 2) := dk_25 4 (dk_at dksX2_ofTraders_3 3 rfl rfl)
theorem dX2_ofTraders_73 : decode cX2_ofTraders 73 = .ok (.invokevirtual 167, 3) := dk_182 0 167 (dk_at dksX2_ofTraders_3 5 rfl rfl)
theorem dX2_ofTraders_76 : decode cX2_ofTraders 76 = .ok (.iadd, 1) := dk_96 (dk_at dksX2_ofTraders_3 8 rfl rfl)
theorem dX2_ofTraders_77 : decode cX2_ofTraders 77 = .ok (.istore_n 2, 1) := dk_61 (dk_at dksX2_ofTraders_3 9 rfl rfl)
theorem dX2_ofTraders_78 : decode cX2_ofTraders 78 = .ok (.goto (-66), 3) := dk_167 255 190 (dk_at dksX2_ofTraders_3 10 rfl rfl)
theorem dX2_ofTraders_81 : decode cX2_ofTraders 81 = .ok (.iload_n 2, 1) := dk_28 (dk_at dksX2_ofTraders_3 13 rfl rfl)
theorem dX2_ofTraders_82 : decode cX2_ofTraders 82 = .ok (.ireturn, 1) := dk_172 (dk_at dksX2_ofTraders_3 14 rfl rfl)
abbrev cX2_lost : ByteArray := prog_13_method_14_code
def yX2_lost : MethodName := ⟨RX2, "lost", "()I"⟩
theorem dX2_lost_0 : decode cX2_lost 0 = .ok (.aload_n 0, 1) := by decide +kernel
theorem dX2_lost_1 : decode cX2_lost 1 = .ok (.getfield 79, 3) := by decide +kernel
theorem dX2_lost_4 : decode cX2_lost 4 = .ok (.ireturn, 1) := by decide +kernel
abbrev cX2_wear : ByteArray := prog_13_method_34_code
def yX2_wear : MethodName := ⟨RX2, "wear", "()I"⟩
def dkwX2_wear_1 : List UInt8 := [185, 0, 47, 1, 0, 192, 0, 66, 78, 27, 45, 182, 0, 113, 96, 60, 167, 255, 230, 27, 172]
abbrev dktX2_wear_1 : List UInt8 := dkwX2_wear_1 ++ []
def dkwX2_wear_0 : List UInt8 := [3, 60, 42, 180, 0, 25, 185, 0, 35, 1, 0, 77, 44, 185, 0, 41, 1, 0, 153, 0, 23, 44]
abbrev dktX2_wear_0 : List UInt8 := dkwX2_wear_0 ++ dktX2_wear_1
theorem dksX2_wear_0 : cX2_wear.data.toList.drop 0 = dktX2_wear_0 := by decide +kernel
theorem dksX2_wear_1 : cX2_wear.data.toList.drop 22 = dktX2_wear_1 := dk_seg dksX2_wear_0 22 rfl rfl
theorem dX2_wear_0 : decode cX2_wear 0 = .ok (.iconst 0, 1) := dk_3 (dk_at dksX2_wear_0 0 rfl rfl)
theorem dX2_wear_1 : decode cX2_wear 1 = .ok (.istore_n 1, 1) := dk_60 (dk_at dksX2_wear_0 1 rfl rfl)
theorem dX2_wear_2 : decode cX2_wear 2 = .ok (.aload_n 0, 1) := dk_42 (dk_at dksX2_wear_0 2 rfl rfl)
theorem dX2_wear_3 : decode cX2_wear 3 = .ok (.getfield 25, 3) := dk_180 0 25 (dk_at dksX2_wear_0 3 rfl rfl)
theorem dX2_wear_6 : decode cX2_wear 6 = .ok (.invokeinterface 35 1, 5) := by decide +kernel
theorem dX2_wear_11 : decode cX2_wear 11 = .ok (.astore_n 2, 1) := dk_77 (dk_at dksX2_wear_0 11 rfl rfl)
theorem dX2_wear_12 : decode cX2_wear 12 = .ok (.aload_n 2, 1) := dk_44 (dk_at dksX2_wear_0 12 rfl rfl)
theorem dX2_wear_13 : decode cX2_wear 13 = .ok (.invokeinterface 41 1, 5) := by decide +kernel
theorem dX2_wear_18 : decode cX2_wear 18 = .ok (.ifCond .eq 23, 3) := dk_153 0 23 (dk_at dksX2_wear_0 18 rfl rfl)
theorem dX2_wear_21 : decode cX2_wear 21 = .ok (.aload_n 2, 1) := dk_44 (dk_at dksX2_wear_0 21 rfl rfl)
theorem dX2_wear_22 : decode cX2_wear 22 = .ok (.invokeinterface 47 1, 5) := by decide +kernel
theorem dX2_wear_27 : decode cX2_wear 27 = .ok (.checkcast 66, 3) := dk_192 0 66 (dk_at dksX2_wear_1 5 rfl rfl)
theorem dX2_wear_30 : decode cX2_wear 30 = .ok (.astore_n 3, 1) := dk_78 (dk_at dksX2_wear_1 8 rfl rfl)
theorem dX2_wear_31 : decode cX2_wear 31 = .ok (.iload_n 1, 1) := dk_27 (dk_at dksX2_wear_1 9 rfl rfl)
theorem dX2_wear_32 : decode cX2_wear 32 = .ok (.aload_n 3, 1) := dk_45 (dk_at dksX2_wear_1 10 rfl rfl)
theorem dX2_wear_33 : decode cX2_wear 33 = .ok (.invokevirtual 113, 3) := dk_182 0 113 (dk_at dksX2_wear_1 11 rfl rfl)
theorem dX2_wear_36 : decode cX2_wear 36 = .ok (.iadd, 1) := dk_96 (dk_at dksX2_wear_1 14 rfl rfl)
theorem dX2_wear_37 : decode cX2_wear 37 = .ok (.istore_n 1, 1) := dk_60 (dk_at dksX2_wear_1 15 rfl rfl)
theorem dX2_wear_38 : decode cX2_wear 38 = .ok (.goto (-26), 3) := dk_167 255 230 (dk_at dksX2_wear_1 16 rfl rfl)
theorem dX2_wear_41 : decode cX2_wear 41 = .ok (.iload_n 1, 1) := dk_27 (dk_at dksX2_wear_1 19 rfl rfl)
theorem dX2_wear_42 : decode cX2_wear 42 = .ok (.ireturn, 1) := dk_172 (dk_at dksX2_wear_1 20 rfl rfl)
