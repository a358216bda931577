/-! code and decode rows of J21 (claim/names) -/
set_option maxRecDepth 100000
abbrev cJ21_stringSize : ByteArray := prog_34_method_13_code
def yJ21_stringSize : MethodName := ⟨RJ21, "stringSize", "(I)I"⟩
def dkwJ21_stringSize_1 : List UInt8 := [164, 0, 7, 29, 27, 96, 172, 16, 10, 28, 104, 61, 132, 3, 1, 167, 255, 233, 16, 10, 27, 96, 172]
abbrev dktJ21_stringSize_1 : List UInt8 := dkwJ21_stringSize_1 ++ []
def dkwJ21_stringSize_0 : List UInt8 := [4, 60, 26, 155, 0, 8, 3, 60, 26, 116, 59, 16, 246, 61, 4, 62, 29, 16, 10, 162, 0, 23, 26, 28]
abbrev dktJ21_stringSize_0 : List UInt8 := dkwJ21_stringSize_0 ++ dktJ21_stringSize_1
theorem dksJ21_stringSize_0 : cJ21_stringSize.data.toList.drop 0 = dktJ21_stringSize_0 := by decide +kernel
theorem dksJ21_stringSize_1 : cJ21_stringSize.data.toList.drop 24 = dktJ21_stringSize_1 := dk_seg dksJ21_stringSize_0 24 rfl rfl
theorem dJ21_stringSize_0 : decode cJ21_stringSize 0 = .ok (.iconst 1, 1) := dk_4 (dk_at dksJ21_stringSize_0 0 rfl rfl)
theorem dJ21_stringSize_1 : decode cJ21_stringSize 1 = .ok (.istore_n 1, 1) := dk_60 (dk_at dksJ21_stringSize_0 1 rfl rfl)
theorem dJ21_stringSize_2 : decode cJ21_stringSize 2 = .ok (.iload_n 0, 1) := dk_26 (dk_at dksJ21_stringSize_0 2 rfl rfl)
theorem dJ21_stringSize_3 : decode cJ21_stringSize 3 = .ok (.ifCond .lt 8, 3) := dk_155 0 8 (dk_at dksJ21_stringSize_0 3 rfl rfl)
theorem dJ21_stringSize_6 : decode cJ21_stringSize 6 = .ok (.iconst 0, 1) := dk_3 (dk_at dksJ21_stringSize_0 6 rfl rfl)
theorem dJ21_stringSize_7 : decode cJ21_stringSize 7 = .ok (.istore_n 1, 1) := dk_60 (dk_at dksJ21_stringSize_0 7 rfl rfl)
theorem dJ21_stringSize_8 : decode cJ21_stringSize 8 = .ok (.iload_n 0, 1) := dk_26 (dk_at dksJ21_stringSize_0 8 rfl rfl)
theorem dJ21_stringSize_9 : decode cJ21_stringSize 9 = .ok (.ineg, 1) := dk_116 (dk_at dksJ21_stringSize_0 9 rfl rfl)
theorem dJ21_stringSize_10 : decode cJ21_stringSize 10 = .ok (.istore_n 0, 1) := dk_59 (dk_at dksJ21_stringSize_0 10 rfl rfl)
theorem dJ21_stringSize_11 : decode cJ21_stringSize 11 = .ok (.bipush (-10), 2) := dk_16 246 (dk_at dksJ21_stringSize_0 11 rfl rfl)
theorem dJ21_stringSize_13 : decode cJ21_stringSize 13 = .ok (.istore_n 2, 1) := dk_61 (dk_at dksJ21_stringSize_0 13 rfl rfl)
theorem dJ21_stringSize_14 : decode cJ21_stringSize 14 = .ok (.iconst 1, 1) := dk_4 (dk_at dksJ21_stringSize_0 14 rfl rfl)
theorem dJ21_stringSize_15 : decode cJ21_stringSize 15 = .ok (.istore_n 3, 1) := dk_62 (dk_at dksJ21_stringSize_0 15 rfl rfl)
theorem dJ21_stringSize_16 : decode cJ21_stringSize 16 = .ok (.iload_n 3, 1) := dk_29 (dk_at dksJ21_stringSize_0 16 rfl rfl)
theorem dJ21_stringSize_17 : decode cJ21_stringSize 17 = .ok (.bipush 10, 2) := dk_16 10 (dk_at dksJ21_stringSize_0 17 rfl rfl)
theorem dJ21_stringSize_19 : decode cJ21_stringSize 19 = .ok (.if_icmp .ge 23, 3) := dk_162 0 23 (dk_at dksJ21_stringSize_0 19 rfl rfl)
theorem dJ21_stringSize_22 : decode cJ21_stringSize 22 = .ok (.iload_n 0, 1) := dk_26 (dk_at dksJ21_stringSize_0 22 rfl rfl)
theorem dJ21_stringSize_23 : decode cJ21_stringSize 23 = .ok (.iload_n 2, 1) := dk_28 (dk_at dksJ21_stringSize_0 23 rfl rfl)
theorem dJ21_stringSize_24 : decode cJ21_stringSize 24 = .ok (.if_icmp .le 7, 3) := dk_164 0 7 (dk_at dksJ21_stringSize_1 0 rfl rfl)
theorem dJ21_stringSize_27 : decode cJ21_stringSize 27 = .ok (.iload_n 3, 1) := dk_29 (dk_at dksJ21_stringSize_1 3 rfl rfl)
theorem dJ21_stringSize_28 : decode cJ21_stringSize 28 = .ok (.iload_n 1, 1) := dk_27 (dk_at dksJ21_stringSize_1 4 rfl rfl)
theorem dJ21_stringSize_29 : decode cJ21_stringSize 29 = .ok (.iadd, 1) := dk_96 (dk_at dksJ21_stringSize_1 5 rfl rfl)
theorem dJ21_stringSize_30 : decode cJ21_stringSize 30 = .ok (.ireturn, 1) := dk_172 (dk_at dksJ21_stringSize_1 6 rfl rfl)
theorem dJ21_stringSize_31 : decode cJ21_stringSize 31 = .ok (.bipush 10, 2) := dk_16 10 (dk_at dksJ21_stringSize_1 7 rfl rfl)
theorem dJ21_stringSize_33 : decode cJ21_stringSize 33 = .ok (.iload_n 2, 1) := dk_28 (dk_at dksJ21_stringSize_1 9 rfl rfl)
theorem dJ21_stringSize_34 : decode cJ21_stringSize 34 = .ok (.imul, 1) := dk_104 (dk_at dksJ21_stringSize_1 10 rfl rfl)
theorem dJ21_stringSize_35 : decode cJ21_stringSize 35 = .ok (.istore_n 2, 1) := dk_61 (dk_at dksJ21_stringSize_1 11 rfl rfl)
theorem dJ21_stringSize_36 : decode cJ21_stringSize 36 = .ok (.iinc 3 1, 3) := dk_132 3 1 (dk_at dksJ21_stringSize_1 12 rfl rfl)
theorem dJ21_stringSize_39 : decode cJ21_stringSize 39 = .ok (.goto (-23), 3) := dk_167 255 233 (dk_at dksJ21_stringSize_1 15 rfl rfl)
theorem dJ21_stringSize_42 : decode cJ21_stringSize 42 = .ok (.bipush 10, 2) := dk_16 10 (dk_at dksJ21_stringSize_1 18 rfl rfl)
theorem dJ21_stringSize_44 : decode cJ21_stringSize 44 = .ok (.iload_n 1, 1) := dk_27 (dk_at dksJ21_stringSize_1 20 rfl rfl)
theorem dJ21_stringSize_45 : decode cJ21_stringSize 45 = .ok (.iadd, 1) := dk_96 (dk_at dksJ21_stringSize_1 21 rfl rfl)
theorem dJ21_stringSize_46 : decode cJ21_stringSize 46 = .ok (.ireturn, 1) := dk_172 (dk_at dksJ21_stringSize_1 22 rfl rfl)
abbrev cJ21_getChars : ByteArray := prog_34_method_12_code
def yJ21_getChars : MethodName := ⟨RJ21, "getChars", "(II[B)I"⟩
def dkwJ21_getChars_5 : List UInt8 := [16, 45, 84, 21, 5, 172]
abbrev dktJ21_getChars_5 : List UInt8 := dkwJ21_getChars_5 ++ []
def dkwJ21_getChars_4 : List UInt8 := [132, 5, 255, 21, 5, 178, 0, 87, 26, 116, 51, 84, 21, 6, 153, 0, 12, 44, 132, 5, 255, 21, 5]
abbrev dktJ21_getChars_4 : List UInt8 := dkwJ21_getChars_4 ++ dktJ21_getChars_5
def dkwJ21_getChars_3 : List UInt8 := [167, 255, 209, 44, 132, 5, 255, 21, 5, 178, 0, 83, 26, 116, 51, 84, 26, 16, 247, 162, 0, 16, 44]
abbrev dktJ21_getChars_3 : List UInt8 := dkwJ21_getChars_3 ++ dktJ21_getChars_4
def dkwJ21_getChars_2 : List UInt8 := [21, 5, 178, 0, 83, 21, 4, 51, 84, 44, 132, 5, 255, 21, 5, 178, 0, 87, 21, 4, 51, 84]
abbrev dktJ21_getChars_2 : List UInt8 := dkwJ21_getChars_2 ++ dktJ21_getChars_3
def dkwJ21_getChars_1 : List UInt8 := [16, 156, 163, 0, 47, 26, 16, 100, 108, 62, 29, 16, 100, 104, 26, 100, 54, 4, 29, 59, 44, 132, 5, 255]
abbrev dktJ21_getChars_1 : List UInt8 := dkwJ21_getChars_1 ++ dktJ21_getChars_2
def dkwJ21_getChars_0 : List UInt8 := [27, 54, 5, 26, 156, 0, 7, 4, 167, 0, 4, 3, 54, 6, 21, 6, 154, 0, 6, 26, 116, 59, 26]
abbrev dktJ21_getChars_0 : List UInt8 := dkwJ21_getChars_0 ++ dktJ21_getChars_1
theorem dksJ21_getChars_0 : cJ21_getChars.data.toList.drop 0 = dktJ21_getChars_0 := by decide +kernel
theorem dksJ21_getChars_1 : cJ21_getChars.data.toList.drop 23 = dktJ21_getChars_1 := dk_seg dksJ21_getChars_0 23 rfl rfl
theorem dksJ21_getChars_2 : cJ21_getChars.data.toList.drop 47 = dktJ21_getChars_2 := dk_seg dksJ21_getChars_1 24 rfl rfl
theorem dksJ21_getChars_3 : cJ21_getChars.data.toList.drop 69 = dktJ21_getChars_3 := dk_seg dksJ21_getChars_2 22 rfl rfl
theorem dksJ21_getChars_4 : cJ21_getChars.data.toList.drop 92 = dktJ21_getChars_4 := dk_seg dksJ21_getChars_3 23 rfl rfl
theorem dksJ21_getChars_5 : cJ21_getChars.data.toList.drop 115 = dktJ21_getChars_5 := dk_seg dksJ21_getChars_4 23 rfl rfl
theorem dJ21_getChars_0 : decode cJ21_getChars 0 = .ok (.iload_n 1, 1) := dk_27 (dk_at dksJ21_getChars_0 0 rfl rfl)
theorem dJ21_getChars_1 : decode cJ21_getChars 1 = .ok (.istore 5, 2) := dk_54 5 (dk_at dksJ21_getChars_0 1 rfl rfl)
theorem dJ21_getChars_3 : decode cJ21_getChars 3 = .ok (.iload_n 0, 1) := dk_26 (dk_at dksJ21_getChars_0 3 rfl rfl)
theorem dJ21_getChars_4 : decode cJ21_getChars 4 = .ok (.ifCond .ge 7, 3) := dk_156 0 7 (dk_at dksJ21_getChars_0 4 rfl rfl)
theorem dJ21_getChars_7 : decode cJ21_getChars 7 = .ok (.iconst 1, 1) := dk_4 (dk_at dksJ21_getChars_0 7 rfl rfl)
theorem dJ21_getChars_8 : decode cJ21_getChars 8 = .ok (.goto 4, 3) := dk_167 0 4 (dk_at dksJ21_getChars_0 8 rfl rfl)
theorem dJ21_getChars_11 : decode cJ21_getChars 11 = .ok (.iconst 0, 1) := dk_3 (dk_at dksJ21_getChars_0 11 rfl rfl)
theorem dJ21_getChars_12 : decode cJ21_getChars 12 = .ok (.istore 6, 2) := dk_54 6 (dk_at dksJ21_getChars_0 12 rfl rfl)
theorem dJ21_getChars_14 : decode cJ21_getChars 14 = .ok (.iload 6, 2) := dk_21 6 (dk_at dksJ21_getChars_0 14 rfl rfl)
theorem dJ21_getChars_16 : decode cJ21_getChars 16 = .ok (.ifCond .ne 6, 3) := dk_154 0 6 (dk_at dksJ21_getChars_0 16 rfl rfl)
theorem dJ21_getChars_19 : decode cJ21_getChars 19 = .ok (.iload_n 0, 1) := dk_26 (dk_at dksJ21_getChars_0 19 rfl rfl)
theorem dJ21_getChars_20 : decode cJ21_getChars 20 = .ok (.ineg, 1) := dk_116 (dk_at dksJ21_getChars_0 20 rfl rfl)
theorem dJ21_getChars_21 : decode cJ21_getChars 21 = .ok (.istore_n 0, 1) := dk_59 (dk_at dksJ21_getChars_0 21 rfl rfl)
theorem dJ21_getChars_22 : decode cJ21_getChars 22 = .ok (.iload_n 0, 1) := dk_26 (dk_at dksJ21_getChars_0 22 rfl rfl)
theorem dJ21_getChars_23 : decode cJ21_getChars 23 = .ok (.bipush (-100), 2) := dk_16 156 (dk_at dksJ21_getChars_1 0 rfl rfl)
theorem dJ21_getChars_25 : decode cJ21_getChars 25 = .ok (.if_icmp .gt 47, 3) := dk_163 0 47 (dk_at dksJ21_getChars_1 2 rfl rfl)
theorem dJ21_getChars_28 : decode cJ21_getChars 28 = .ok (.iload_n 0, 1) := dk_26 (dk_at dksJ21_getChars_1 5 rfl rfl)
theorem dJ21_getChars_29 : decode cJ21_getChars 29 = .ok (.bipush 100, 2) := dk_16 100 (dk_at dksJ21_getChars_1 6 rfl rfl)
theorem dJ21_getChars_31 : decode cJ21_getChars 31 = .ok (.idiv, 1) := dk_108 (dk_at dksJ21_getChars_1 8 rfl rfl)
theorem dJ21_getChars_32 : decode cJ21_getChars 32 = .ok (.istore_n 3, 1) := dk_62 (dk_at dksJ21_getChars_1 9 rfl rfl)
theorem dJ21_getChars_33 : decode cJ21_getChars 33 = .ok (.iload_n 3, 1) := dk_29 (dk_at dksJ21_getChars_1 10 rfl rfl)
theorem dJ21_getChars_34 : decode cJ21_getChars 34 = .ok (.bipush 100, 2) := dk_16 100 (dk_at dksJ21_getChars_1 11 rfl rfl)
theorem dJ21_getChars_36 : decode cJ21_getChars 36 = .ok (.imul, 1) := dk_104 (dk_at dksJ21_getChars_1 13 rfl rfl)
theorem dJ21_getChars_37 : decode cJ21_getChars 37 = .ok (.iload_n 0, 1) := dk_26 (dk_at dksJ21_getChars_1 14 rfl rfl)
theorem dJ21_getChars_38 : decode cJ21_getChars 38 = .ok (.isub, 1) := dk_100 (dk_at dksJ21_getChars_1 15 rfl rfl)
theorem dJ21_getChars_39 : decode cJ21_getChars 39 = .ok (.istore 4, 2) := dk_54 4 (dk_at dksJ21_getChars_1 16 rfl rfl)
theorem dJ21_getChars_41 : decode cJ21_getChars 41 = .ok (.iload_n 3, 1) := dk_29 (dk_at dksJ21_getChars_1 18 rfl rfl)
theorem dJ21_getChars_42 : decode cJ21_getChars 42 = .ok (.istore_n 0, 1) := dk_59 (dk_at dksJ21_getChars_1 19 rfl rfl)
theorem dJ21_getChars_43 : decode cJ21_getChars 43 = .ok (.aload_n 2, 1) := dk_44 (dk_at dksJ21_getChars_1 20 rfl rfl)
theorem dJ21_getChars_44 : decode cJ21_getChars 44 = .ok (.iinc 5 (-1), 3) := dk_132 5 255 (dk_at dksJ21_getChars_1 21 rfl rfl)
theorem dJ21_getChars_47 : decode cJ21_getChars 47 = .ok (.iload 5, 2) := dk_21 5 (dk_at dksJ21_getChars_2 0 rfl rfl)
theorem dJ21_getChars_49 : decode cJ21_getChars 49 = .ok (.getstatic 83, 3) := dk_178 0 83 (dk_at dksJ21_getChars_2 2 rfl rfl)
theorem dJ21_getChars_52 : decode cJ21_getChars 52 = .ok (.iload 4, 2) := dk_21 4 (dk_at dksJ21_getChars_2 5 rfl rfl)
theorem dJ21_getChars_54 : decode cJ21_getChars 54 = .ok (.baload, 1) := dk_51 (dk_at dksJ21_getChars_2 7 rfl rfl)
theorem dJ21_getChars_55 : decode cJ21_getChars 55 = .ok (.bastore, 1) := dk_84 (dk_at dksJ21_getChars_2 8 rfl rfl)
theorem dJ21_getChars_56 : decode cJ21_getChars 56 = .ok (.aload_n 2, 1) := dk_44 (dk_at dksJ21_getChars_2 9 rfl rfl)
theorem dJ21_getChars_57 : decode cJ21_getChars 57 = .ok (.iinc 5 (-1), 3) := dk_132 5 255 (dk_at dksJ21_getChars_2 10 rfl rfl)
theorem dJ21_getChars_60 : decode cJ21_getChars 60 = .ok (.iload 5, 2) := dk_21 5 (dk_at dksJ21_getChars_2 13 rfl rfl)
theorem dJ21_getChars_62 : decode cJ21_getChars 62 = .ok (.getstatic 87, 3) := dk_178 0 87 (dk_at dksJ21_getChars_2 15 rfl rfl)
theorem dJ21_getChars_65 : decode cJ21_getChars 65 = .ok (.iload 4, 2) := dk_21 4 (dk_at dksJ21_getChars_2 18 rfl rfl)
theorem dJ21_getChars_67 : decode cJ21_getChars 67 = .ok (.baload, 1) := dk_51 (dk_at dksJ21_getChars_2 20 rfl rfl)
theorem dJ21_getChars_68 : decode cJ21_getChars 68 = .ok (.bastore, 1) := dk_84 (dk_at dksJ21_getChars_2 21 rfl rfl)
theorem dJ21_getChars_69 : decode cJ21_getChars 69 = .ok (.goto (-47), 3) := dk_167 255 209 (dk_at dksJ21_getChars_3 0 rfl rfl)
theorem dJ21_getChars_72 : decode cJ21_getChars 72 = .ok (.aload_n 2, 1) := dk_44 (dk_at dksJ21_getChars_3 3 rfl rfl)
theorem dJ21_getChars_73 : decode cJ21_getChars 73 = .ok (.iinc 5 (-1), 3) := dk_132 5 255 (dk_at dksJ21_getChars_3 4 rfl rfl)
theorem dJ21_getChars_76 : decode cJ21_getChars 76 = .ok (.iload 5, 2) := dk_21 5 (dk_at dksJ21_getChars_3 7 rfl rfl)
theorem dJ21_getChars_78 : decode cJ21_getChars 78 = .ok (.getstatic 83, 3) := dk_178 0 83 (dk_at dksJ21_getChars_3 9 rfl rfl)
theorem dJ21_getChars_81 : decode cJ21_getChars 81 = .ok (.iload_n 0, 1) := dk_26 (dk_at dksJ21_getChars_3 12 rfl rfl)
theorem dJ21_getChars_82 : decode cJ21_getChars 82 = .ok (.ineg, 1) := dk_116 (dk_at dksJ21_getChars_3 13 rfl rfl)
theorem dJ21_getChars_83 : decode cJ21_getChars 83 = .ok (.baload, 1) := dk_51 (dk_at dksJ21_getChars_3 14 rfl rfl)
theorem dJ21_getChars_84 : decode cJ21_getChars 84 = .ok (.bastore, 1) := dk_84 (dk_at dksJ21_getChars_3 15 rfl rfl)
theorem dJ21_getChars_85 : decode cJ21_getChars 85 = .ok (.iload_n 0, 1) := dk_26 (dk_at dksJ21_getChars_3 16 rfl rfl)
theorem dJ21_getChars_86 : decode cJ21_getChars 86 = .ok (.bipush (-9), 2) := dk_16 247 (dk_at dksJ21_getChars_3 17 rfl rfl)
theorem dJ21_getChars_88 : decode cJ21_getChars 88 = .ok (.if_icmp .ge 16, 3) := dk_162 0 16 (dk_at dksJ21_getChars_3 19 rfl rfl)
theorem dJ21_getChars_91 : decode cJ21_getChars 91 = .ok (.aload_n 2, 1) := dk_44 (dk_at dksJ21_getChars_3 22 rfl rfl)
theorem dJ21_getChars_92 : decode cJ21_getChars 92 = .ok (.iinc 5 (-1), 3) := dk_132 5 255 (dk_at dksJ21_getChars_4 0 rfl rfl)
theorem dJ21_getChars_95 : decode cJ21_getChars 95 = .ok (.iload 5, 2) := dk_21 5 (dk_at dksJ21_getChars_4 3 rfl rfl)
theorem dJ21_getChars_97 : decode cJ21_getChars 97 = .ok (.getstatic 87, 3) := dk_178 0 87 (dk_at dksJ21_getChars_4 5 rfl rfl)
theorem dJ21_getChars_100 : decode cJ21_getChars 100 = .ok (.iload_n 0, 1) := dk_26 (dk_at dksJ21_getChars_4 8 rfl rfl)
theorem dJ21_getChars_101 : decode cJ21_getChars 101 = .ok (.ineg, 1) := dk_116 (dk_at dksJ21_getChars_4 9 rfl rfl)
theorem dJ21_getChars_102 : decode cJ21_getChars 102 = .ok (.baload, 1) := dk_51 (dk_at dksJ21_getChars_4 10 rfl rfl)
theorem dJ21_getChars_103 : decode cJ21_getChars 103 = .ok (.bastore, 1) := dk_84 (dk_at dksJ21_getChars_4 11 rfl rfl)
theorem dJ21_getChars_104 : decode cJ21_getChars 104 = .ok (.iload 6, 2) := dk_21 6 (dk_at dksJ21_getChars_4 12 rfl rfl)
theorem dJ21_getChars_106 : decode cJ21_getChars 106 = .ok (.ifCond .eq 12, 3) := dk_153 0 12 (dk_at dksJ21_getChars_4 14 rfl rfl)
theorem dJ21_getChars_109 : decode cJ21_getChars 109 = .ok (.aload_n 2, 1) := dk_44 (dk_at dksJ21_getChars_4 17 rfl rfl)
theorem dJ21_getChars_110 : decode cJ21_getChars 110 = .ok (.iinc 5 (-1), 3) := dk_132 5 255 (dk_at dksJ21_getChars_4 18 rfl rfl)
theorem dJ21_getChars_113 : decode cJ21_getChars 113 = .ok (.iload 5, 2) := dk_21 5 (dk_at dksJ21_getChars_4 21 rfl rfl)
theorem dJ21_getChars_115 : decode cJ21_getChars 115 = .ok (.bipush 45, 2) := dk_16 45 (dk_at dksJ21_getChars_5 0 rfl rfl)
theorem dJ21_getChars_117 : decode cJ21_getChars 117 = .ok (.bastore, 1) := dk_84 (dk_at dksJ21_getChars_5 2 rfl rfl)
theorem dJ21_getChars_118 : decode cJ21_getChars 118 = .ok (.iload 5, 2) := dk_21 5 (dk_at dksJ21_getChars_5 3 rfl rfl)
theorem dJ21_getChars_120 : decode cJ21_getChars 120 = .ok (.ireturn, 1) := dk_172 (dk_at dksJ21_getChars_5 5 rfl rfl)
