/-! code and decode rows of X12 (claim/names) -/
set_option maxRecDepth 100000
abbrev cX12_does : ByteArray := prog_10_method_3_code
def yX12_does : MethodName := ⟨RX12, "does", "(LBrassInspector$Round;)I"⟩
def dkwX12_does_14 : List UInt8 := [180, 0, 18, 42, 180, 0, 22, 182, 0, 87, 172]
abbrev dktX12_does_14 : List UInt8 := dkwX12_does_14 ++ []
def dkwX12_does_13 : List UInt8 := [180, 0, 22, 182, 0, 83, 172, 42, 180, 0, 22, 4, 16, 99, 184, 0, 33, 184, 0, 37, 43, 42]
abbrev dktX12_does_13 : List UInt8 := dkwX12_does_13 ++ dktX12_does_14
def dkwX12_does_12 : List UInt8 := [172, 42, 180, 0, 22, 16, 253, 6, 184, 0, 33, 184, 0, 37, 43, 42, 180, 0, 18, 182, 0, 79, 42]
abbrev dktX12_does_12 : List UInt8 := dkwX12_does_12 ++ dktX12_does_13
def dkwX12_does_11 : List UInt8 := [180, 0, 22, 4, 16, 9, 184, 0, 33, 184, 0, 37, 43, 42, 180, 0, 18, 42, 180, 0, 22, 182, 0, 77]
abbrev dktX12_does_11 : List UInt8 := dkwX12_does_11 ++ dktX12_does_12
def dkwX12_does_10 : List UInt8 := [43, 42, 180, 0, 18, 42, 180, 0, 22, 182, 0, 71, 172, 43, 42, 180, 0, 18, 182, 0, 75, 172, 42]
abbrev dktX12_does_10 : List UInt8 := dkwX12_does_10 ++ dktX12_does_11
def dkwX12_does_9 : List UInt8 := [42, 180, 0, 22, 43, 182, 0, 68, 185, 0, 51, 1, 0, 162, 0, 7, 4, 167, 0, 4, 3, 184, 0, 37]
abbrev dktX12_does_9 : List UInt8 := dkwX12_does_9 ++ dktX12_does_10
def dkwX12_does_8 : List UInt8 := [170, 0, 0, 0, 0, 131, 0, 0, 0, 0, 0, 0, 0, 3, 0, 0, 0, 30, 0, 0, 0, 67, 0, 0, 0, 76, 0, 0, 0, 102]
abbrev dktX12_does_8 : List UInt8 := dkwX12_does_8 ++ dktX12_does_9
def dkwX12_does_7 : List UInt8 := [153, 0, 5, 6, 62, 29]
abbrev dktX12_does_7 : List UInt8 := dkwX12_does_7 ++ dktX12_does_8
def dkwX12_does_6 : List UInt8 := [62, 167, 0, 28, 44, 18, 64, 182, 0, 27, 153, 0, 19, 5, 62, 167, 0, 14, 44, 18, 66, 182, 0, 27]
abbrev dktX12_does_6 : List UInt8 := dkwX12_does_6 ++ dktX12_does_7
def dkwX12_does_5 : List UInt8 := [44, 18, 60, 182, 0, 27, 153, 0, 47, 3, 62, 167, 0, 42, 44, 18, 62, 182, 0, 27, 153, 0, 33, 4]
abbrev dktX12_does_5 : List UInt8 := dkwX12_does_5 ++ dktX12_does_6
def dkwX12_does_4 : List UInt8 := [171, 0, 0, 0, 0, 0, 96, 0, 0, 0, 4, 0, 50, 198, 159, 0, 0, 0, 43, 0, 51, 21, 78, 0, 0, 0, 57, 5, 182, 151, 169, 0, 0, 0, 85, 6, 133, 80, 91, 0, 0, 0, 71]
abbrev dktX12_does_4 : List UInt8 := dkwX12_does_4 ++ dktX12_does_5
def dkwX12_does_3 : List UInt8 := [182, 0, 57]
abbrev dktX12_does_3 : List UInt8 := dkwX12_does_3 ++ dktX12_does_4
def dkwX12_does_2 : List UInt8 := [185, 0, 51, 1, 0, 162, 0, 7, 4, 167, 0, 4, 3, 184, 0, 37, 42, 180, 0, 14, 77, 2, 62, 44]
abbrev dktX12_does_2 : List UInt8 := dkwX12_does_2 ++ dktX12_does_3
def dkwX12_does_1 : List UInt8 := [184, 0, 37, 43, 42, 180, 0, 18, 182, 0, 41, 172, 42, 180, 0, 18, 43, 182, 0, 47]
abbrev dktX12_does_1 : List UInt8 := dkwX12_does_1 ++ dktX12_does_2
def dkwX12_does_0 : List UInt8 := [42, 180, 0, 14, 18, 25, 182, 0, 27, 153, 0, 25, 42, 180, 0, 18, 4, 16, 40, 184, 0, 33]
abbrev dktX12_does_0 : List UInt8 := dkwX12_does_0 ++ dktX12_does_1
theorem dksX12_does_0 : cX12_does.data.toList.drop 0 = dktX12_does_0 := by decide +kernel
theorem dksX12_does_1 : cX12_does.data.toList.drop 22 = dktX12_does_1 := dk_seg dksX12_does_0 22 rfl rfl
theorem dksX12_does_2 : cX12_does.data.toList.drop 42 = dktX12_does_2 := dk_seg dksX12_does_1 20 rfl rfl
theorem dksX12_does_3 : cX12_does.data.toList.drop 66 = dktX12_does_3 := dk_seg dksX12_does_2 24 rfl rfl
theorem dksX12_does_4 : cX12_does.data.toList.drop 69 = dktX12_does_4 := dk_seg dksX12_does_3 3 rfl rfl
theorem dksX12_does_5 : cX12_does.data.toList.drop 112 = dktX12_does_5 := dk_seg dksX12_does_4 43 rfl rfl
theorem dksX12_does_6 : cX12_does.data.toList.drop 136 = dktX12_does_6 := dk_seg dksX12_does_5 24 rfl rfl
theorem dksX12_does_7 : cX12_does.data.toList.drop 160 = dktX12_does_7 := dk_seg dksX12_does_6 24 rfl rfl
theorem dksX12_does_8 : cX12_does.data.toList.drop 166 = dktX12_does_8 := dk_seg dksX12_does_7 6 rfl rfl
theorem dksX12_does_9 : cX12_does.data.toList.drop 196 = dktX12_does_9 := dk_seg dksX12_does_8 30 rfl rfl
theorem dksX12_does_10 : cX12_does.data.toList.drop 220 = dktX12_does_10 := dk_seg dksX12_does_9 24 rfl rfl
theorem dksX12_does_11 : cX12_does.data.toList.drop 243 = dktX12_does_11 := dk_seg dksX12_does_10 23 rfl rfl
theorem dksX12_does_12 : cX12_does.data.toList.drop 267 = dktX12_does_12 := dk_seg dksX12_does_11 24 rfl rfl
theorem dksX12_does_13 : cX12_does.data.toList.drop 290 = dktX12_does_13 := dk_seg dksX12_does_12 23 rfl rfl
theorem dksX12_does_14 : cX12_does.data.toList.drop 312 = dktX12_does_14 := dk_seg dksX12_does_13 22 rfl rfl
theorem dX12_does_0 : decode cX12_does 0 = .ok (.aload_n 0, 1) := dk_42 (dk_at dksX12_does_0 0 rfl rfl)
theorem dX12_does_1 : decode cX12_does 1 = .ok (.getfield 14, 3) := dk_180 0 14 (dk_at dksX12_does_0 1 rfl rfl)
theorem dX12_does_4 : decode cX12_does 4 = .ok (.ldc 25, 2) := dk_18 25 (dk_at dksX12_does_0 4 rfl rfl)
theorem dX12_does_6 : decode cX12_does 6 = .ok (.invokevirtual 27, 3) := dk_182 0 27 (dk_at dksX12_does_0 6 rfl rfl)
theorem dX12_does_9 : decode cX12_does 9 = .ok (.ifCond .eq 25, 3) := dk_153 0 25 (dk_at dksX12_does_0 9 rfl rfl)
theorem dX12_does_12 : decode cX12_does 12 = .ok (.aload_n 0, 1) := dk_42 (dk_at dksX12_does_0 12 rfl rfl)
theorem dX12_does_13 : decode cX12_does 13 = .ok (.getfield 18, 3) := dk_180 0 18 (dk_at dksX12_does_0 13 rfl rfl)
theorem dX12_does_16 : decode cX12_does 16 = .ok (.iconst 1, 1) := dk_4 (dk_at dksX12_does_0 16 rfl rfl)
theorem dX12_does_17 : decode cX12_does 17 = .ok (.bipush 40, 2) := dk_16 40 (dk_at dksX12_does_0 17 rfl rfl)
theorem dX12_does_19 : decode cX12_does 19 = .ok (.invokestatic 33, 3) := dk_184 0 33 (dk_at dksX12_does_0 19 rfl rfl)
theorem dX12_does_22 : decode cX12_does 22 = .ok (.invokestatic 37, 3) := dk_184 0 37 (dk_at dksX12_does_1 0 rfl rfl)
theorem dX12_does_25 : decode cX12_does 25 = .ok (.aload_n 1, 1) := dk_43 (dk_at dksX12_does_1 3 rfl rfl)
theorem dX12_does_26 : decode cX12_does 26 = .ok (.aload_n 0, 1) := dk_42 (dk_at dksX12_does_1 4 rfl rfl)
theorem dX12_does_27 : decode cX12_does 27 = .ok (.getfield 18, 3) := dk_180 0 18 (dk_at dksX12_does_1 5 rfl rfl)
theorem dX12_does_30 : decode cX12_does 30 = .ok (.invokevirtual 41, 3) := dk_182 0 41 (dk_at dksX12_does_1 8 rfl rfl)
theorem dX12_does_33 : decode cX12_does 33 = .ok (.ireturn, 1) := dk_172 (dk_at dksX12_does_1 11 rfl rfl)
theorem dX12_does_34 : decode cX12_does 34 = .ok (.aload_n 0, 1) := dk_42 (dk_at dksX12_does_1 12 rfl rfl)
theorem dX12_does_35 : decode cX12_does 35 = .ok (.getfield 18, 3) := dk_180 0 18 (dk_at dksX12_does_1 13 rfl rfl)
theorem dX12_does_38 : decode cX12_does 38 = .ok (.aload_n 1, 1) := dk_43 (dk_at dksX12_does_1 16 rfl rfl)
theorem dX12_does_39 : decode cX12_does 39 = .ok (.invokevirtual 47, 3) := dk_182 0 47 (dk_at dksX12_does_1 17 rfl rfl)
theorem dX12_does_42 : decode cX12_does 42 = .ok (.invokeinterface 51 1, 5) := by decide +kernel
theorem dX12_does_47 : decode cX12_does 47 = .ok (.if_icmp .ge 7, 3) := dk_162 0 7 (dk_at dksX12_does_2 5 rfl rfl)
theorem dX12_does_50 : decode cX12_does 50 = .ok (.iconst 1, 1) := dk_4 (dk_at dksX12_does_2 8 rfl rfl)
theorem dX12_does_51 : decode cX12_does 51 = .ok (.goto 4, 3) := dk_167 0 4 (dk_at dksX12_does_2 9 rfl rfl)
theorem dX12_does_54 : decode cX12_does 54 = .ok (.iconst 0, 1) := dk_3 (dk_at dksX12_does_2 12 rfl rfl)
theorem dX12_does_55 : decode cX12_does 55 = .ok (.invokestatic 37, 3) := dk_184 0 37 (dk_at dksX12_does_2 13 rfl rfl)
theorem dX12_does_58 : decode cX12_does 58 = .ok (.aload_n 0, 1) := dk_42 (dk_at dksX12_does_2 16 rfl rfl)
theorem dX12_does_59 : decode cX12_does 59 = .ok (.getfield 14, 3) := dk_180 0 14 (dk_at dksX12_does_2 17 rfl rfl)
theorem dX12_does_62 : decode cX12_does 62 = .ok (.astore_n 2, 1) := dk_77 (dk_at dksX12_does_2 20 rfl rfl)
theorem dX12_does_63 : decode cX12_does 63 = .ok (.iconst (-1), 1) := dk_2 (dk_at dksX12_does_2 21 rfl rfl)
theorem dX12_does_64 : decode cX12_does 64 = .ok (.istore_n 3, 1) := dk_62 (dk_at dksX12_does_2 22 rfl rfl)
theorem dX12_does_65 : decode cX12_does 65 = .ok (.aload_n 2, 1) := dk_44 (dk_at dksX12_does_2 23 rfl rfl)
theorem dX12_does_66 : decode cX12_does 66 = .ok (.invokevirtual 57, 3) := dk_182 0 57 (dk_at dksX12_does_3 0 rfl rfl)
theorem dX12_does_69 : decode cX12_does 69 = .ok (.lookupswitch 96 #[(3327647, 43), (3347790, 57), (95852457, 85), (109400155, 71)], 43) := by decide +kernel
theorem dX12_does_112 : decode cX12_does 112 = .ok (.aload_n 2, 1) := dk_44 (dk_at dksX12_does_5 0 rfl rfl)
theorem dX12_does_113 : decode cX12_does 113 = .ok (.ldc 60, 2) := dk_18 60 (dk_at dksX12_does_5 1 rfl rfl)
theorem dX12_does_115 : decode cX12_does 115 = .ok (.invokevirtual 27, 3) := dk_182 0 27 (dk_at dksX12_does_5 3 rfl rfl)
theorem dX12_does_118 : decode cX12_does 118 = .ok (.ifCond .eq 47, 3) := dk_153 0 47 (dk_at dksX12_does_5 6 rfl rfl)
theorem dX12_does_121 : decode cX12_does 121 = .ok (.iconst 0, 1) := dk_3 (dk_at dksX12_does_5 9 rfl rfl)
theorem dX12_does_122 : decode cX12_does 122 = .ok (.istore_n 3, 1) := dk_62 (dk_at dksX12_does_5 10 rfl rfl)
theorem dX12_does_123 : decode cX12_does 123 = .ok (.goto 42, 3) := dk_167 0 42 (dk_at dksX12_does_5 11 rfl rfl)
theorem dX12_does_126 : decode cX12_does 126 = .ok (.aload_n 2, 1) := dk_44 (dk_at dksX12_does_5 14 rfl rfl)
theorem dX12_does_127 : decode cX12_does 127 = .ok (.ldc 62, 2) := dk_18 62 (dk_at dksX12_does_5 15 rfl rfl)
theorem dX12_does_129 : decode cX12_does 129 = .ok (.invokevirtual 27, 3) := dk_182 0 27 (dk_at dksX12_does_5 17 rfl rfl)
theorem dX12_does_132 : decode cX12_does 132 = .ok (.ifCond .eq 33, 3) := dk_153 0 33 (dk_at dksX12_does_5 20 rfl rfl)
theorem dX12_does_135 : decode cX12_does 135 = .ok (.iconst 1, 1) := dk_4 (dk_at dksX12_does_5 23 rfl rfl)
theorem dX12_does_136 : decode cX12_does 136 = .ok (.istore_n 3, 1) := dk_62 (dk_at dksX12_does_6 0 rfl rfl)
theorem dX12_does_137 : decode cX12_does 137 = .ok (.goto 28, 3) := dk_167 0 28 (dk_at dksX12_does_6 1 rfl rfl)
theorem dX12_does_140 : decode cX12_does 140 = .ok (.aload_n 2, 1) := dk_44 (dk_at dksX12_does_6 4 rfl rfl)
theorem dX12_does_141 : decode cX12_does 141 = .ok (.ldc 64, 2) := dk_18 64 (dk_at dksX12_does_6 5 rfl rfl)
theorem dX12_does_143 : decode cX12_does 143 = .ok (.invokevirtual 27, 3) := dk_182 0 27 (dk_at dksX12_does_6 7 rfl rfl)
theorem dX12_does_146 : decode cX12_does 146 = .ok (.ifCond .eq 19, 3) := dk_153 0 19 (dk_at dksX12_does_6 10 rfl rfl)
theorem dX12_does_149 : decode cX12_does 149 = .ok (.iconst 2, 1) := dk_5 (dk_at dksX12_does_6 13 rfl rfl)
theorem dX12_does_150 : decode cX12_does 150 = .ok (.istore_n 3, 1) := dk_62 (dk_at dksX12_does_6 14 rfl rfl)
theorem dX12_does_151 : decode cX12_does 151 = .ok (.goto 14, 3) := dk_167 0 14 (dk_at dksX12_does_6 15 rfl rfl)
theorem dX12_does_154 : decode cX12_does 154 = .ok (.aload_n 2, 1) := dk_44 (dk_at dksX12_does_6 18 rfl rfl)
theorem dX12_does_155 : decode cX12_does 155 = .ok (.ldc 66, 2) := dk_18 66 (dk_at dksX12_does_6 19 rfl rfl)
theorem dX12_does_157 : decode cX12_does 157 = .ok (.invokevirtual 27, 3) := dk_182 0 27 (dk_at dksX12_does_6 21 rfl rfl)
theorem dX12_does_160 : decode cX12_does 160 = .ok (.ifCond .eq 5, 3) := dk_153 0 5 (dk_at dksX12_does_7 0 rfl rfl)
theorem dX12_does_163 : decode cX12_does 163 = .ok (.iconst 3, 1) := dk_6 (dk_at dksX12_does_7 3 rfl rfl)
theorem dX12_does_164 : decode cX12_does 164 = .ok (.istore_n 3, 1) := dk_62 (dk_at dksX12_does_7 4 rfl rfl)
theorem dX12_does_165 : decode cX12_does 165 = .ok (.iload_n 3, 1) := dk_29 (dk_at dksX12_does_7 5 rfl rfl)
theorem dX12_does_166 : decode cX12_does 166 = .ok (.tableswitch 131 0 3 #[30, 67, 76, 102], 30) := by decide +kernel
theorem dX12_does_196 : decode cX12_does 196 = .ok (.aload_n 0, 1) := dk_42 (dk_at dksX12_does_9 0 rfl rfl)
theorem dX12_does_197 : decode cX12_does 197 = .ok (.getfield 22, 3) := dk_180 0 22 (dk_at dksX12_does_9 1 rfl rfl)
theorem dX12_does_200 : decode cX12_does 200 = .ok (.aload_n 1, 1) := dk_43 (dk_at dksX12_does_9 4 rfl rfl)
theorem dX12_does_201 : decode cX12_does 201 = .ok (.invokevirtual 68, 3) := dk_182 0 68 (dk_at dksX12_does_9 5 rfl rfl)
theorem dX12_does_204 : decode cX12_does 204 = .ok (.invokeinterface 51 1, 5) := by decide +kernel
theorem dX12_does_209 : decode cX12_does 209 = .ok (.if_icmp .ge 7, 3) := dk_162 0 7 (dk_at dksX12_does_9 13 rfl rfl)
theorem dX12_does_212 : decode cX12_does 212 = .ok (.iconst 1, 1) := dk_4 (dk_at dksX12_does_9 16 rfl rfl)
theorem dX12_does_213 : decode cX12_does 213 = .ok (.goto 4, 3) := dk_167 0 4 (dk_at dksX12_does_9 17 rfl rfl)
theorem dX12_does_216 : decode cX12_does 216 = .ok (.iconst 0, 1) := dk_3 (dk_at dksX12_does_9 20 rfl rfl)
theorem dX12_does_217 : decode cX12_does 217 = .ok (.invokestatic 37, 3) := dk_184 0 37 (dk_at dksX12_does_9 21 rfl rfl)
theorem dX12_does_220 : decode cX12_does 220 = .ok (.aload_n 1, 1) := dk_43 (dk_at dksX12_does_10 0 rfl rfl)
theorem dX12_does_221 : decode cX12_does 221 = .ok (.aload_n 0, 1) := dk_42 (dk_at dksX12_does_10 1 rfl rfl)
theorem dX12_does_222 : decode cX12_does 222 = .ok (.getfield 18, 3) := dk_180 0 18 (dk_at dksX12_does_10 2 rfl rfl)
theorem dX12_does_225 : decode cX12_does 225 = .ok (.aload_n 0, 1) := dk_42 (dk_at dksX12_does_10 5 rfl rfl)
theorem dX12_does_226 : decode cX12_does 226 = .ok (.getfield 22, 3) := dk_180 0 22 (dk_at dksX12_does_10 6 rfl rfl)
theorem dX12_does_229 : decode cX12_does 229 = .ok (.invokevirtual 71, 3) := dk_182 0 71 (dk_at dksX12_does_10 9 rfl rfl)
theorem dX12_does_232 : decode cX12_does 232 = .ok (.ireturn, 1) := dk_172 (dk_at dksX12_does_10 12 rfl rfl)
theorem dX12_does_233 : decode cX12_does 233 = .ok (.aload_n 1, 1) := dk_43 (dk_at dksX12_does_10 13 rfl rfl)
theorem dX12_does_234 : decode cX12_does 234 = .ok (.aload_n 0, 1) := dk_42 (dk_at dksX12_does_10 14 rfl rfl)
theorem dX12_does_235 : decode cX12_does 235 = .ok (.getfield 18, 3) := dk_180 0 18 (dk_at dksX12_does_10 15 rfl rfl)
theorem dX12_does_238 : decode cX12_does 238 = .ok (.invokevirtual 75, 3) := dk_182 0 75 (dk_at dksX12_does_10 18 rfl rfl)
theorem dX12_does_241 : decode cX12_does 241 = .ok (.ireturn, 1) := dk_172 (dk_at dksX12_does_10 21 rfl rfl)
theorem dX12_does_242 : decode cX12_does 242 = .ok (.aload_n 0, 1) := dk_42 (dk_at dksX12_does_10 22 rfl rfl)
theorem dX12_does_243 : decode cX12_does 243 = .ok (.getfield 22, 3) := dk_180 0 22 (dk_at dksX12_does_11 0 rfl rfl)
theorem dX12_does_246 : decode cX12_does 246 = .ok (.iconst 1, 1) := dk_4 (dk_at dksX12_does_11 3 rfl rfl)
theorem dX12_does_247 : decode cX12_does 247 = .ok (.bipush 9, 2) := dk_16 9 (dk_at dksX12_does_11 4 rfl rfl)
theorem dX12_does_249 : decode cX12_does 249 = .ok (.invokestatic 33, 3) := dk_184 0 33 (dk_at dksX12_does_11 6 rfl rfl)
theorem dX12_does_252 : decode cX12_does 252 = .ok (.invokestatic 37, 3) := dk_184 0 37 (dk_at dksX12_does_11 9 rfl rfl)
theorem dX12_does_255 : decode cX12_does 255 = .ok (.aload_n 1, 1) := dk_43 (dk_at dksX12_does_11 12 rfl rfl)
theorem dX12_does_256 : decode cX12_does 256 = .ok (.aload_n 0, 1) := dk_42 (dk_at dksX12_does_11 13 rfl rfl)
theorem dX12_does_257 : decode cX12_does 257 = .ok (.getfield 18, 3) := dk_180 0 18 (dk_at dksX12_does_11 14 rfl rfl)
theorem dX12_does_260 : decode cX12_does 260 = .ok (.aload_n 0, 1) := dk_42 (dk_at dksX12_does_11 17 rfl rfl)
theorem dX12_does_261 : decode cX12_does 261 = .ok (.getfield 22, 3) := dk_180 0 22 (dk_at dksX12_does_11 18 rfl rfl)
theorem dX12_does_264 : decode cX12_does 264 = .ok (.invokevirtual 77, 3) := dk_182 0 77 (dk_at dksX12_does_11 21 rfl rfl)
theorem dX12_does_267 : decode cX12_does 267 = .ok (.ireturn, 1) := dk_172 (dk_at dksX12_does_12 0 rfl rfl)
theorem dX12_does_268 : decode cX12_does 268 = .ok (.aload_n 0, 1) := dk_42 (dk_at dksX12_does_12 1 rfl rfl)
theorem dX12_does_269 : decode cX12_does 269 = .ok (.getfield 22, 3) := dk_180 0 22 (dk_at dksX12_does_12 2 rfl rfl)
theorem dX12_does_272 : decode cX12_does 272 = .ok (.bipush (-3), 2) := dk_16 253 (dk_at dksX12_does_12 5 rfl rfl)
theorem dX12_does_274 : decode cX12_does 274 = .ok (.iconst 3, 1) := dk_6 (dk_at dksX12_does_12 7 rfl rfl)
theorem dX12_does_275 : decode cX12_does 275 = .ok (.invokestatic 33, 3) := dk_184 0 33 (dk_at dksX12_does_12 8 rfl rfl)
theorem dX12_does_278 : decode cX12_does 278 = .ok (.invokestatic 37, 3) := dk_184 0 37 (dk_at dksX12_does_12 11 rfl rfl)
theorem dX12_does_281 : decode cX12_does 281 = .ok (.aload_n 1, 1) := dk_43 (dk_at dksX12_does_12 14 rfl rfl)
theorem dX12_does_282 : decode cX12_does 282 = .ok (.aload_n 0, 1) := dk_42 (dk_at dksX12_does_12 15 rfl rfl)
theorem dX12_does_283 : decode cX12_does 283 = .ok (.getfield 18, 3) := dk_180 0 18 (dk_at dksX12_does_12 16 rfl rfl)
theorem dX12_does_286 : decode cX12_does 286 = .ok (.invokevirtual 79, 3) := dk_182 0 79 (dk_at dksX12_does_12 19 rfl rfl)
theorem dX12_does_289 : decode cX12_does 289 = .ok (.aload_n 0, 1) := dk_42 (dk_at dksX12_does_12 22 rfl rfl)
theorem dX12_does_290 : decode cX12_does 290 = .ok (.getfield 22, 3) := dk_180 0 22 (dk_at dksX12_does_13 0 rfl rfl)
theorem dX12_does_293 : decode cX12_does 293 = .ok (.invokevirtual 83, 3) := dk_182 0 83 (dk_at dksX12_does_13 3 rfl rfl)
theorem dX12_does_296 : decode cX12_does 296 = .ok (.ireturn, 1) := dk_172 (dk_at dksX12_does_13 6 rfl rfl)
theorem dX12_does_297 : decode cX12_does 297 = .ok (.aload_n 0, 1) := dk_42 (dk_at dksX12_does_13 7 rfl rfl)
theorem dX12_does_298 : decode cX12_does 298 = .ok (.getfield 22, 3) := dk_180 0 22 (dk_at dksX12_does_13 8 rfl rfl)
theorem dX12_does_301 : decode cX12_does 301 = .ok (.iconst 1, 1) := dk_4 (dk_at dksX12_does_13 11 rfl rfl)
theorem dX12_does_302 : decode cX12_does 302 = .ok (.bipush 99, 2) := dk_16 99 (dk_at dksX12_does_13 12 rfl rfl)
theorem dX12_does_304 : decode cX12_does 304 = .ok (.invokestatic 33, 3) := dk_184 0 33 (dk_at dksX12_does_13 14 rfl rfl)
theorem dX12_does_307 : decode cX12_does 307 = .ok (.invokestatic 37, 3) := dk_184 0 37 (dk_at dksX12_does_13 17 rfl rfl)
theorem dX12_does_310 : decode cX12_does 310 = .ok (.aload_n 1, 1) := dk_43 (dk_at dksX12_does_13 20 rfl rfl)
theorem dX12_does_311 : decode cX12_does 311 = .ok (.aload_n 0, 1) := dk_42 (dk_at dksX12_does_13 21 rfl rfl)
theorem dX12_does_312 : decode cX12_does 312 = .ok (.getfield 18, 3) := dk_180 0 18 (dk_at dksX12_does_14 0 rfl rfl)
theorem dX12_does_315 : decode cX12_does 315 = .ok (.aload_n 0, 1) := dk_42 (dk_at dksX12_does_14 3 rfl rfl)
theorem dX12_does_316 : decode cX12_does 316 = .ok (.getfield 22, 3) := dk_180 0 22 (dk_at dksX12_does_14 4 rfl rfl)
theorem dX12_does_319 : decode cX12_does 319 = .ok (.invokevirtual 87, 3) := dk_182 0 87 (dk_at dksX12_does_14 7 rfl rfl)
theorem dX12_does_322 : decode cX12_does 322 = .ok (.ireturn, 1) := dk_172 (dk_at dksX12_does_14 10 rfl rfl)
abbrev cX12_init : ByteArray := prog_10_method_2_code
def yX12_init : MethodName := ⟨RX12, "<init>", "(Ljava/lang/String;II)V"⟩
def dkwX12_init_0 : List UInt8 := [42, 183, 0, 9, 42, 43, 181, 0, 14, 42, 28, 181, 0, 18, 42, 29, 181, 0, 22, 177]
abbrev dktX12_init_0 : List UInt8 := dkwX12_init_0 ++ []
theorem dksX12_init_0 : cX12_init.data.toList.drop 0 = dktX12_init_0 := by decide +kernel
theorem dX12_init_0 : decode cX12_init 0 = .ok (.aload_n 0, 1) := dk_42 (dk_at dksX12_init_0 0 rfl rfl)
theorem dX12_init_1 : decode cX12_init 1 = .ok (.invokespecial 9, 3) := dk_183 0 9 (dk_at dksX12_init_0 1 rfl rfl)
theorem dX12_init_4 : decode cX12_init 4 = .ok (.aload_n 0, 1) := dk_42 (dk_at dksX12_init_0 4 rfl rfl)
theorem dX12_init_5 : decode cX12_init 5 = .ok (.aload_n 1, 1) := dk_43 (dk_at dksX12_init_0 5 rfl rfl)
theorem dX12_init_6 : decode cX12_init 6 = .ok (.putfield 14, 3) := dk_181 0 14 (dk_at dksX12_init_0 6 rfl rfl)
theorem dX12_init_9 : decode cX12_init 9 = .ok (.aload_n 0, 1) := dk_42 (dk_at dksX12_init_0 9 rfl rfl)
theorem dX12_init_10 : decode cX12_init 10 = .ok (.iload_n 2, 1) := dk_28 (dk_at dksX12_init_0 10 rfl rfl)
theorem dX12_init_11 : decode cX12_init 11 = .ok (.putfield 18, 3) := dk_181 0 18 (dk_at dksX12_init_0 11 rfl rfl)
theorem dX12_init_14 : decode cX12_init 14 = .ok (.aload_n 0, 1) := dk_42 (dk_at dksX12_init_0 14 rfl rfl)
theorem dX12_init_15 : decode cX12_init 15 = .ok (.iload_n 3, 1) := dk_29 (dk_at dksX12_init_0 15 rfl rfl)
theorem dX12_init_16 : decode cX12_init 16 = .ok (.putfield 22, 3) := dk_181 0 22 (dk_at dksX12_init_0 16 rfl rfl)
theorem dX12_init_19 : decode cX12_init 19 = .ok (.return_, 1) := dk_177 (dk_at dksX12_init_0 19 rfl rfl)
abbrev cX12_init_2 : ByteArray := prog_10_method_1_code
def yX12_init_2 : MethodName := ⟨RX12, "<init>", "(Ljava/lang/String;I)V"⟩
def dkwX12_init_2_0 : List UInt8 := [42, 43, 28, 3, 183, 0, 3, 177]
abbrev dktX12_init_2_0 : List UInt8 := dkwX12_init_2_0 ++ []
theorem dksX12_init_2_0 : cX12_init_2.data.toList.drop 0 = dktX12_init_2_0 := by decide +kernel
theorem dX12_init_2_0 : decode cX12_init_2 0 = .ok (.aload_n 0, 1) := dk_42 (dk_at dksX12_init_2_0 0 rfl rfl)
theorem dX12_init_2_1 : decode cX12_init_2 1 = .ok (.aload_n 1, 1) := dk_43 (dk_at dksX12_init_2_0 1 rfl rfl)
theorem dX12_init_2_2 : decode cX12_init_2 2 = .ok (.iload_n 2, 1) := dk_28 (dk_at dksX12_init_2_0 2 rfl rfl)
theorem dX12_init_2_3 : decode cX12_init_2 3 = .ok (.iconst 0, 1) := dk_3 (dk_at dksX12_init_2_0 3 rfl rfl)
theorem dX12_init_2_4 : decode cX12_init_2 4 = .ok (.invokespecial 3, 3) := dk_183 0 3 (dk_at dksX12_init_2_0 4 rfl rfl)
theorem dX12_init_2_7 : decode cX12_init_2 7 = .ok (.return_, 1) := dk_177 (dk_at dksX12_init_2_0 7 rfl rfl)
