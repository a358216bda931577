/-! code and decode rows of X8 (claim/names) -/
set_option maxRecDepth 100000
abbrev cX8_init : ByteArray := prog_12_method_1_code
def yX8_init : MethodName := ⟨RX8, "<init>", "(II)V"⟩
def dkwX8_init_0 : List UInt8 := [42, 183, 0, 1, 42, 27, 181, 0, 7, 42, 28, 181, 0, 13, 177]
abbrev dktX8_init_0 : List UInt8 := dkwX8_init_0 ++ []
theorem dksX8_init_0 : cX8_init.data.toList.drop 0 = dktX8_init_0 := by decide +kernel
theorem dX8_init_0 : decode cX8_init 0 = .ok (.aload_n 0, 1) := dk_42 (dk_at dksX8_init_0 0 rfl rfl)
theorem dX8_init_1 : decode cX8_init 1 = .ok (.invokespecial 1, 3) := dk_183 0 1 (dk_at dksX8_init_0 1 rfl rfl)
theorem dX8_init_4 : decode cX8_init 4 = .ok (.aload_n 0, 1) := dk_42 (dk_at dksX8_init_0 4 rfl rfl)
theorem dX8_init_5 : decode cX8_init 5 = .ok (.iload_n 1, 1) := dk_27 (dk_at dksX8_init_0 5 rfl rfl)
theorem dX8_init_6 : decode cX8_init 6 = .ok (.putfield 7, 3) := dk_181 0 7 (dk_at dksX8_init_0 6 rfl rfl)
theorem dX8_init_9 : decode cX8_init 9 = .ok (.aload_n 0, 1) := dk_42 (dk_at dksX8_init_0 9 rfl rfl)
theorem dX8_init_10 : decode cX8_init 10 = .ok (.iload_n 2, 1) := dk_28 (dk_at dksX8_init_0 10 rfl rfl)
theorem dX8_init_11 : decode cX8_init 11 = .ok (.putfield 13, 3) := dk_181 0 13 (dk_at dksX8_init_0 11 rfl rfl)
theorem dX8_init_14 : decode cX8_init 14 = .ok (.return_, 1) := dk_177 (dk_at dksX8_init_0 14 rfl rfl)
abbrev cX8_init_2 : ByteArray := prog_12_method_2_code
def yX8_init_2 : MethodName := ⟨RX8, "<init>", "(IILBrassInspector$Refusal;)V"⟩
def dkwX8_init_2_0 : List UInt8 := [42, 1, 45, 183, 0, 16, 42, 27, 181, 0, 7, 42, 28, 181, 0, 13, 177]
abbrev dktX8_init_2_0 : List UInt8 := dkwX8_init_2_0 ++ []
theorem dksX8_init_2_0 : cX8_init_2.data.toList.drop 0 = dktX8_init_2_0 := by decide +kernel
theorem dX8_init_2_0 : decode cX8_init_2 0 = .ok (.aload_n 0, 1) := dk_42 (dk_at dksX8_init_2_0 0 rfl rfl)
theorem dX8_init_2_1 : decode cX8_init_2 1 = .ok (.aconst_null, 1) := dk_1 (dk_at dksX8_init_2_0 1 rfl rfl)
theorem dX8_init_2_2 : decode cX8_init_2 2 = .ok (.aload_n 3, 1) := dk_45 (dk_at dksX8_init_2_0 2 rfl rfl)
theorem dX8_init_2_3 : decode cX8_init_2 3 = .ok (.invokespecial 16, 3) := dk_183 0 16 (dk_at dksX8_init_2_0 3 rfl rfl)
theorem dX8_init_2_6 : decode cX8_init_2 6 = .ok (.aload_n 0, 1) := dk_42 (dk_at dksX8_init_2_0 6 rfl rfl)
theorem dX8_init_2_7 : decode cX8_init_2 7 = .ok (.iload_n 1, 1) := dk_27 (dk_at dksX8_init_2_0 7 rfl rfl)
theorem dX8_init_2_8 : decode cX8_init_2 8 = .ok (.putfield 7, 3) := dk_181 0 7 (dk_at dksX8_init_2_0 8 rfl rfl)
theorem dX8_init_2_11 : decode cX8_init_2 11 = .ok (.aload_n 0, 1) := dk_42 (dk_at dksX8_init_2_0 11 rfl rfl)
theorem dX8_init_2_12 : decode cX8_init_2 12 = .ok (.iload_n 2, 1) := dk_28 (dk_at dksX8_init_2_0 12 rfl rfl)
theorem dX8_init_2_13 : decode cX8_init_2 13 = .ok (.putfield 13, 3) := dk_181 0 13 (dk_at dksX8_init_2_0 13 rfl rfl)
theorem dX8_init_2_16 : decode cX8_init_2 16 = .ok (.return_, 1) := dk_177 (dk_at dksX8_init_2_0 16 rfl rfl)
abbrev cX8_at : ByteArray := prog_12_method_5_code
def yX8_at : MethodName := ⟨RX8, "at", "(I)LBrassInspector$Refusal;"⟩
def dkwX8_at_1 : List UInt8 := [44, 193, 0, 8, 153, 0, 12, 44, 192, 0, 8, 78, 45, 167, 0, 4, 1, 176]
abbrev dktX8_at_1 : List UInt8 := dkwX8_at_1 ++ []
def dkwX8_at_0 : List UInt8 := [42, 77, 3, 62, 29, 27, 162, 0, 18, 44, 198, 0, 14, 44, 182, 0, 19, 77, 132, 3, 1, 167, 255, 239]
abbrev dktX8_at_0 : List UInt8 := dkwX8_at_0 ++ dktX8_at_1
theorem dksX8_at_0 : cX8_at.data.toList.drop 0 = dktX8_at_0 := by decide +kernel
theorem dksX8_at_1 : cX8_at.data.toList.drop 24 = dktX8_at_1 := dk_seg dksX8_at_0 24 rfl rfl
theorem dX8_at_0 : decode cX8_at 0 = .ok (.aload_n 0, 1) := dk_42 (dk_at dksX8_at_0 0 rfl rfl)
theorem dX8_at_1 : decode cX8_at 1 = .ok (.astore_n 2, 1) := dk_77 (dk_at dksX8_at_0 1 rfl rfl)
theorem dX8_at_2 : decode cX8_at 2 = .ok (.iconst 0, 1) := dk_3 (dk_at dksX8_at_0 2 rfl rfl)
theorem dX8_at_3 : decode cX8_at 3 = .ok (.istore_n 3, 1) := dk_62 (dk_at dksX8_at_0 3 rfl rfl)
theorem dX8_at_4 : decode cX8_at 4 = .ok (.iload_n 3, 1) := dk_29 (dk_at dksX8_at_0 4 rfl rfl)
theorem dX8_at_5 : decode cX8_at 5 = .ok (.iload_n 1, 1) := dk_27 (dk_at dksX8_at_0 5 rfl rfl)
theorem dX8_at_6 : decode cX8_at 6 = .ok (.if_icmp .ge 18, 3) := dk_162 0 18 (dk_at dksX8_at_0 6 rfl rfl)
theorem dX8_at_9 : decode cX8_at 9 = .ok (.aload_n 2, 1) := dk_44 (dk_at dksX8_at_0 9 rfl rfl)
theorem dX8_at_10 : decode cX8_at 10 = .ok (.ifnull 14, 3) := dk_198 0 14 (dk_at dksX8_at_0 10 rfl rfl)
theorem dX8_at_13 : decode cX8_at 13 = .ok (.aload_n 2, 1) := dk_44 (dk_at dksX8_at_0 13 rfl rfl)
theorem dX8_at_14 : decode cX8_at 14 = .ok (.invokevirtual 19, 3) := dk_182 0 19 (dk_at dksX8_at_0 14 rfl rfl)
theorem dX8_at_17 : decode cX8_at 17 = .ok (.astore_n 2, 1) := dk_77 (dk_at dksX8_at_0 17 rfl rfl)
theorem dX8_at_18 : decode cX8_at 18 = .ok (.iinc 3 1, 3) := dk_132 3 1 (dk_at dksX8_at_0 18 rfl rfl)
theorem dX8_at_21 : decode cX8_at 21 = .ok (.goto (-17), 3) := dk_167 255 239 (dk_at dksX8_at_0 21 rfl rfl)
theorem dX8_at_24 : decode cX8_at 24 = .ok (.aload_n 2, 1) := dk_44 (dk_at dksX8_at_1 0 rfl rfl)
theorem dX8_at_25 : decode cX8_at 25 = .ok (.instanceof 8, 3) := dk_193 0 8 (dk_at dksX8_at_1 1 rfl rfl)
theorem dX8_at_28 : decode cX8_at 28 = .ok (.ifCond .eq 12, 3) := dk_153 0 12 (dk_at dksX8_at_1 4 rfl rfl)
theorem dX8_at_31 : decode cX8_at 31 = .ok (.aload_n 2, 1) := dk_44 (dk_at dksX8_at_1 7 rfl rfl)
theorem dX8_at_32 : decode cX8_at 32 = .ok (.checkcast 8, 3) := dk_192 0 8 (dk_at dksX8_at_1 8 rfl rfl)
theorem dX8_at_35 : decode cX8_at 35 = .ok (.astore_n 3, 1) := dk_78 (dk_at dksX8_at_1 11 rfl rfl)
theorem dX8_at_36 : decode cX8_at 36 = .ok (.aload_n 3, 1) := dk_45 (dk_at dksX8_at_1 12 rfl rfl)
theorem dX8_at_37 : decode cX8_at 37 = .ok (.goto 4, 3) := dk_167 0 4 (dk_at dksX8_at_1 13 rfl rfl)
theorem dX8_at_40 : decode cX8_at 40 = .ok (.aconst_null, 1) := dk_1 (dk_at dksX8_at_1 16 rfl rfl)
theorem dX8_at_41 : decode cX8_at 41 = .ok (.areturn, 1) := dk_176 (dk_at dksX8_at_1 17 rfl rfl)
abbrev cX8_detail : ByteArray := prog_12_method_4_code
def yX8_detail : MethodName := ⟨RX8, "detail", "()I"⟩
theorem dX8_detail_0 : decode cX8_detail 0 = .ok (.aload_n 0, 1) := by decide +kernel
theorem dX8_detail_1 : decode cX8_detail 1 = .ok (.getfield 13, 3) := by decide +kernel
theorem dX8_detail_4 : decode cX8_detail 4 = .ok (.ireturn, 1) := by decide +kernel
abbrev cX8_reason : ByteArray := prog_12_method_3_code
def yX8_reason : MethodName := ⟨RX8, "reason", "()I"⟩
theorem dX8_reason_0 : decode cX8_reason 0 = .ok (.aload_n 0, 1) := by decide +kernel
theorem dX8_reason_1 : decode cX8_reason 1 = .ok (.getfield 7, 3) := by decide +kernel
theorem dX8_reason_4 : decode cX8_reason 4 = .ok (.ireturn, 1) := by decide +kernel
