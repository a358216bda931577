/-! code and decode rows of J8 (claim/names) -/
set_option maxRecDepth 100000
abbrev cJ8_newBytesFor : ByteArray := prog_43_method_2_code
def yJ8_newBytesFor : MethodName := ⟨RJ8, "newBytesFor", "(I)[B"⟩
def dkwJ8_newBytesFor_0 : List UInt8 := [26, 184, 0, 11, 188, 8, 176]
abbrev dktJ8_newBytesFor_0 : List UInt8 := dkwJ8_newBytesFor_0 ++ []
theorem dksJ8_newBytesFor_0 : cJ8_newBytesFor.data.toList.drop 0 = dktJ8_newBytesFor_0 := by decide +kernel
theorem dJ8_newBytesFor_0 : decode cJ8_newBytesFor 0 = .ok (.iload_n 0, 1) := dk_26 (dk_at dksJ8_newBytesFor_0 0 rfl rfl)
theorem dJ8_newBytesFor_1 : decode cJ8_newBytesFor 1 = .ok (.invokestatic 11, 3) := dk_184 0 11 (dk_at dksJ8_newBytesFor_0 1 rfl rfl)
theorem dJ8_newBytesFor_4 : decode cJ8_newBytesFor 4 = .ok (.newarray .byte, 2) := dk_188_8 (dk_at dksJ8_newBytesFor_0 4 rfl rfl)
theorem dJ8_newBytesFor_6 : decode cJ8_newBytesFor 6 = .ok (.areturn, 1) := dk_176 (dk_at dksJ8_newBytesFor_0 6 rfl rfl)
abbrev cJ8_newBytesLength : ByteArray := prog_43_method_3_code
def yJ8_newBytesLength : MethodName := ⟨RJ8, "newBytesLength", "(I)I"⟩
def dkwJ8_newBytesLength_2 : List UInt8 := [182, 0, 32, 182, 0, 37, 183, 0, 41, 191, 26, 4, 120, 172]
abbrev dktJ8_newBytesLength_2 : List UInt8 := dkwJ8_newBytesLength_2 ++ []
def dkwJ8_newBytesLength_1 : List UInt8 := [187, 0, 23, 89, 183, 0, 25, 18, 26, 182, 0, 28, 26, 182, 0, 32, 18, 35, 182, 0, 28, 18, 20]
abbrev dktJ8_newBytesLength_1 : List UInt8 := dkwJ8_newBytesLength_1 ++ dktJ8_newBytesLength_2
def dkwJ8_newBytesLength_0 : List UInt8 := [26, 156, 0, 11, 187, 0, 17, 89, 183, 0, 19, 191, 26, 18, 20, 161, 0, 40, 187, 0, 21, 89]
abbrev dktJ8_newBytesLength_0 : List UInt8 := dkwJ8_newBytesLength_0 ++ dktJ8_newBytesLength_1
theorem dksJ8_newBytesLength_0 : cJ8_newBytesLength.data.toList.drop 0 = dktJ8_newBytesLength_0 := by decide +kernel
theorem dksJ8_newBytesLength_1 : cJ8_newBytesLength.data.toList.drop 22 = dktJ8_newBytesLength_1 := dk_seg dksJ8_newBytesLength_0 22 rfl rfl
theorem dksJ8_newBytesLength_2 : cJ8_newBytesLength.data.toList.drop 45 = dktJ8_newBytesLength_2 := dk_seg dksJ8_newBytesLength_1 23 rfl rfl
theorem dJ8_newBytesLength_0 : decode cJ8_newBytesLength 0 = .ok (.iload_n 0, 1) := dk_26 (dk_at dksJ8_newBytesLength_0 0 rfl rfl)
theorem dJ8_newBytesLength_1 : decode cJ8_newBytesLength 1 = .ok (.ifCond .ge 11, 3) := dk_156 0 11 (dk_at dksJ8_newBytesLength_0 1 rfl rfl)
theorem dJ8_newBytesLength_4 : decode cJ8_newBytesLength 4 = .ok (.new 17, 3) := dk_187 0 17 (dk_at dksJ8_newBytesLength_0 4 rfl rfl)
theorem dJ8_newBytesLength_7 : decode cJ8_newBytesLength 7 = .ok (.dup, 1) := dk_89 (dk_at dksJ8_newBytesLength_0 7 rfl rfl)
theorem dJ8_newBytesLength_8 : decode cJ8_newBytesLength 8 = .ok (.invokespecial 19, 3) := dk_183 0 19 (dk_at dksJ8_newBytesLength_0 8 rfl rfl)
theorem dJ8_newBytesLength_11 : decode cJ8_newBytesLength 11 = .ok (.athrow, 1) := dk_191 (dk_at dksJ8_newBytesLength_0 11 rfl rfl)
theorem dJ8_newBytesLength_12 : decode cJ8_newBytesLength 12 = .ok (.iload_n 0, 1) := dk_26 (dk_at dksJ8_newBytesLength_0 12 rfl rfl)
theorem dJ8_newBytesLength_13 : decode cJ8_newBytesLength 13 = .ok (.ldc 20, 2) := dk_18 20 (dk_at dksJ8_newBytesLength_0 13 rfl rfl)
theorem dJ8_newBytesLength_15 : decode cJ8_newBytesLength 15 = .ok (.if_icmp .lt 40, 3) := dk_161 0 40 (dk_at dksJ8_newBytesLength_0 15 rfl rfl)
theorem dJ8_newBytesLength_18 : decode cJ8_newBytesLength 18 = .ok (.new 21, 3) := dk_187 0 21 (dk_at dksJ8_newBytesLength_0 18 rfl rfl)
theorem dJ8_newBytesLength_21 : decode cJ8_newBytesLength 21 = .ok (.dup, 1) := dk_89 (dk_at dksJ8_newBytesLength_0 21 rfl rfl)
theorem dJ8_newBytesLength_22 : decode cJ8_newBytesLength 22 = .ok (.new 23, 3) := dk_187 0 23 (dk_at dksJ8_newBytesLength_1 0 rfl rfl)
theorem dJ8_newBytesLength_25 : decode cJ8_newBytesLength 25 = .ok (.dup, 1) := dk_89 (dk_at dksJ8_newBytesLength_1 3 rfl rfl)
theorem dJ8_newBytesLength_26 : decode cJ8_newBytesLength 26 = .ok (.invokespecial 25, 3) := dk_183 0 25 (dk_at dksJ8_newBytesLength_1 4 rfl rfl)
theorem dJ8_newBytesLength_29 : decode cJ8_newBytesLength 29 = .ok (.ldc 26, 2) := dk_18 26 (dk_at dksJ8_newBytesLength_1 7 rfl rfl)
theorem dJ8_newBytesLength_31 : decode cJ8_newBytesLength 31 = .ok (.invokevirtual 28, 3) := dk_182 0 28 (dk_at dksJ8_newBytesLength_1 9 rfl rfl)
theorem dJ8_newBytesLength_34 : decode cJ8_newBytesLength 34 = .ok (.iload_n 0, 1) := dk_26 (dk_at dksJ8_newBytesLength_1 12 rfl rfl)
theorem dJ8_newBytesLength_35 : decode cJ8_newBytesLength 35 = .ok (.invokevirtual 32, 3) := dk_182 0 32 (dk_at dksJ8_newBytesLength_1 13 rfl rfl)
theorem dJ8_newBytesLength_38 : decode cJ8_newBytesLength 38 = .ok (.ldc 35, 2) := dk_18 35 (dk_at dksJ8_newBytesLength_1 16 rfl rfl)
theorem dJ8_newBytesLength_40 : decode cJ8_newBytesLength 40 = .ok (.invokevirtual 28, 3) := dk_182 0 28 (dk_at dksJ8_newBytesLength_1 18 rfl rfl)
theorem dJ8_newBytesLength_43 : decode cJ8_newBytesLength 43 = .ok (.ldc 20, 2) := dk_18 20 (dk_at dksJ8_newBytesLength_1 21 rfl rfl)
theorem dJ8_newBytesLength_45 : decode cJ8_newBytesLength 45 = .ok (.invokevirtual 32, 3) := dk_182 0 32 (dk_at dksJ8_newBytesLength_2 0 rfl rfl)
theorem dJ8_newBytesLength_48 : decode cJ8_newBytesLength 48 = .ok (.invokevirtual 37, 3) := dk_182 0 37 (dk_at dksJ8_newBytesLength_2 3 rfl rfl)
theorem dJ8_newBytesLength_51 : decode cJ8_newBytesLength 51 = .ok (.invokespecial 41, 3) := dk_183 0 41 (dk_at dksJ8_newBytesLength_2 6 rfl rfl)
theorem dJ8_newBytesLength_54 : decode cJ8_newBytesLength 54 = .ok (.athrow, 1) := dk_191 (dk_at dksJ8_newBytesLength_2 9 rfl rfl)
theorem dJ8_newBytesLength_55 : decode cJ8_newBytesLength 55 = .ok (.iload_n 0, 1) := dk_26 (dk_at dksJ8_newBytesLength_2 10 rfl rfl)
theorem dJ8_newBytesLength_56 : decode cJ8_newBytesLength 56 = .ok (.iconst 1, 1) := dk_4 (dk_at dksJ8_newBytesLength_2 11 rfl rfl)
theorem dJ8_newBytesLength_57 : decode cJ8_newBytesLength 57 = .ok (.ishl, 1) := dk_120 (dk_at dksJ8_newBytesLength_2 12 rfl rfl)
theorem dJ8_newBytesLength_58 : decode cJ8_newBytesLength 58 = .ok (.ireturn, 1) := dk_172 (dk_at dksJ8_newBytesLength_2 13 rfl rfl)
abbrev cJ8_putCharsAt : ByteArray := prog_43_method_81_code
def yJ8_putCharsAt : MethodName := ⟨RJ8, "putCharsAt", "([BICCCC)I"⟩
def dkwJ8_putCharsAt_3 : List UInt8 := [21, 6, 172]
abbrev dktJ8_putCharsAt_3 : List UInt8 := dkwJ8_putCharsAt_3 ++ []
def dkwJ8_putCharsAt_2 : List UInt8 := [184, 0, 111, 178, 0, 44, 154, 0, 17, 27, 21, 6, 159, 0, 11, 187, 0, 52, 89, 183, 0, 66, 191]
abbrev dktJ8_putCharsAt_2 : List UInt8 := dkwJ8_putCharsAt_2 ++ dktJ8_putCharsAt_3
def dkwJ8_putCharsAt_1 : List UInt8 := [132, 1, 1, 29, 184, 0, 111, 42, 27, 132, 1, 1, 21, 4, 184, 0, 111, 42, 27, 132, 1, 1, 21, 5]
abbrev dktJ8_putCharsAt_1 : List UInt8 := dkwJ8_putCharsAt_1 ++ dktJ8_putCharsAt_2
def dkwJ8_putCharsAt_0 : List UInt8 := [27, 7, 96, 54, 6, 27, 21, 6, 42, 184, 0, 96, 42, 27, 132, 1, 1, 28, 184, 0, 111, 42, 27]
abbrev dktJ8_putCharsAt_0 : List UInt8 := dkwJ8_putCharsAt_0 ++ dktJ8_putCharsAt_1
theorem dksJ8_putCharsAt_0 : cJ8_putCharsAt.data.toList.drop 0 = dktJ8_putCharsAt_0 := by decide +kernel
theorem dksJ8_putCharsAt_1 : cJ8_putCharsAt.data.toList.drop 23 = dktJ8_putCharsAt_1 := dk_seg dksJ8_putCharsAt_0 23 rfl rfl
theorem dksJ8_putCharsAt_2 : cJ8_putCharsAt.data.toList.drop 47 = dktJ8_putCharsAt_2 := dk_seg dksJ8_putCharsAt_1 24 rfl rfl
theorem dksJ8_putCharsAt_3 : cJ8_putCharsAt.data.toList.drop 70 = dktJ8_putCharsAt_3 := dk_seg dksJ8_putCharsAt_2 23 rfl rfl
theorem dJ8_putCharsAt_0 : decode cJ8_putCharsAt 0 = .ok (.iload_n 1, 1) := dk_27 (dk_at dksJ8_putCharsAt_0 0 rfl rfl)
theorem dJ8_putCharsAt_1 : decode cJ8_putCharsAt 1 = .ok (.iconst 4, 1) := dk_7 (dk_at dksJ8_putCharsAt_0 1 rfl rfl)
theorem dJ8_putCharsAt_2 : decode cJ8_putCharsAt 2 = .ok (.iadd, 1) := dk_96 (dk_at dksJ8_putCharsAt_0 2 rfl rfl)
theorem dJ8_putCharsAt_3 : decode cJ8_putCharsAt 3 = .ok (.istore 6, 2) := dk_54 6 (dk_at dksJ8_putCharsAt_0 3 rfl rfl)
theorem dJ8_putCharsAt_5 : decode cJ8_putCharsAt 5 = .ok (.iload_n 1, 1) := dk_27 (dk_at dksJ8_putCharsAt_0 5 rfl rfl)
theorem dJ8_putCharsAt_6 : decode cJ8_putCharsAt 6 = .ok (.iload 6, 2) := dk_21 6 (dk_at dksJ8_putCharsAt_0 6 rfl rfl)
theorem dJ8_putCharsAt_8 : decode cJ8_putCharsAt 8 = .ok (.aload_n 0, 1) := dk_42 (dk_at dksJ8_putCharsAt_0 8 rfl rfl)
theorem dJ8_putCharsAt_9 : decode cJ8_putCharsAt 9 = .ok (.invokestatic 96, 3) := dk_184 0 96 (dk_at dksJ8_putCharsAt_0 9 rfl rfl)
theorem dJ8_putCharsAt_12 : decode cJ8_putCharsAt 12 = .ok (.aload_n 0, 1) := dk_42 (dk_at dksJ8_putCharsAt_0 12 rfl rfl)
theorem dJ8_putCharsAt_13 : decode cJ8_putCharsAt 13 = .ok (.iload_n 1, 1) := dk_27 (dk_at dksJ8_putCharsAt_0 13 rfl rfl)
theorem dJ8_putCharsAt_14 : decode cJ8_putCharsAt 14 = .ok (.iinc 1 1, 3) := dk_132 1 1 (dk_at dksJ8_putCharsAt_0 14 rfl rfl)
theorem dJ8_putCharsAt_17 : decode cJ8_putCharsAt 17 = .ok (.iload_n 2, 1) := dk_28 (dk_at dksJ8_putCharsAt_0 17 rfl rfl)
theorem dJ8_putCharsAt_18 : decode cJ8_putCharsAt 18 = .ok (.invokestatic 111, 3) := dk_184 0 111 (dk_at dksJ8_putCharsAt_0 18 rfl rfl)
theorem dJ8_putCharsAt_21 : decode cJ8_putCharsAt 21 = .ok (.aload_n 0, 1) := dk_42 (dk_at dksJ8_putCharsAt_0 21 rfl rfl)
theorem dJ8_putCharsAt_22 : decode cJ8_putCharsAt 22 = .ok (.iload_n 1, 1) := dk_27 (dk_at dksJ8_putCharsAt_0 22 rfl rfl)
theorem dJ8_putCharsAt_23 : decode cJ8_putCharsAt 23 = .ok (.iinc 1 1, 3) := dk_132 1 1 (dk_at dksJ8_putCharsAt_1 0 rfl rfl)
theorem dJ8_putCharsAt_26 : decode cJ8_putCharsAt 26 = .ok (.iload_n 3, 1) := dk_29 (dk_at dksJ8_putCharsAt_1 3 rfl rfl)
theorem dJ8_putCharsAt_27 : decode cJ8_putCharsAt 27 = .ok (.invokestatic 111, 3) := dk_184 0 111 (dk_at dksJ8_putCharsAt_1 4 rfl rfl)
theorem dJ8_putCharsAt_30 : decode cJ8_putCharsAt 30 = .ok (.aload_n 0, 1) := dk_42 (dk_at dksJ8_putCharsAt_1 7 rfl rfl)
theorem dJ8_putCharsAt_31 : decode cJ8_putCharsAt 31 = .ok (.iload_n 1, 1) := dk_27 (dk_at dksJ8_putCharsAt_1 8 rfl rfl)
theorem dJ8_putCharsAt_32 : decode cJ8_putCharsAt 32 = .ok (.iinc 1 1, 3) := dk_132 1 1 (dk_at dksJ8_putCharsAt_1 9 rfl rfl)
theorem dJ8_putCharsAt_35 : decode cJ8_putCharsAt 35 = .ok (.iload 4, 2) := dk_21 4 (dk_at dksJ8_putCharsAt_1 12 rfl rfl)
theorem dJ8_putCharsAt_37 : decode cJ8_putCharsAt 37 = .ok (.invokestatic 111, 3) := dk_184 0 111 (dk_at dksJ8_putCharsAt_1 14 rfl rfl)
theorem dJ8_putCharsAt_40 : decode cJ8_putCharsAt 40 = .ok (.aload_n 0, 1) := dk_42 (dk_at dksJ8_putCharsAt_1 17 rfl rfl)
theorem dJ8_putCharsAt_41 : decode cJ8_putCharsAt 41 = .ok (.iload_n 1, 1) := dk_27 (dk_at dksJ8_putCharsAt_1 18 rfl rfl)
theorem dJ8_putCharsAt_42 : decode cJ8_putCharsAt 42 = .ok (.iinc 1 1, 3) := dk_132 1 1 (dk_at dksJ8_putCharsAt_1 19 rfl rfl)
theorem dJ8_putCharsAt_45 : decode cJ8_putCharsAt 45 = .ok (.iload 5, 2) := dk_21 5 (dk_at dksJ8_putCharsAt_1 22 rfl rfl)
theorem dJ8_putCharsAt_47 : decode cJ8_putCharsAt 47 = .ok (.invokestatic 111, 3) := dk_184 0 111 (dk_at dksJ8_putCharsAt_2 0 rfl rfl)
theorem dJ8_putCharsAt_50 : decode cJ8_putCharsAt 50 = .ok (.getstatic 44, 3) := dk_178 0 44 (dk_at dksJ8_putCharsAt_2 3 rfl rfl)
theorem dJ8_putCharsAt_53 : decode cJ8_putCharsAt 53 = .ok (.ifCond .ne 17, 3) := dk_154 0 17 (dk_at dksJ8_putCharsAt_2 6 rfl rfl)
theorem dJ8_putCharsAt_56 : decode cJ8_putCharsAt 56 = .ok (.iload_n 1, 1) := dk_27 (dk_at dksJ8_putCharsAt_2 9 rfl rfl)
theorem dJ8_putCharsAt_57 : decode cJ8_putCharsAt 57 = .ok (.iload 6, 2) := dk_21 6 (dk_at dksJ8_putCharsAt_2 10 rfl rfl)
theorem dJ8_putCharsAt_59 : decode cJ8_putCharsAt 59 = .ok (.if_icmp .eq 11, 3) := dk_159 0 11 (dk_at dksJ8_putCharsAt_2 12 rfl rfl)
theorem dJ8_putCharsAt_62 : decode cJ8_putCharsAt 62 = .ok (.new 52, 3) := dk_187 0 52 (dk_at dksJ8_putCharsAt_2 15 rfl rfl)
theorem dJ8_putCharsAt_65 : decode cJ8_putCharsAt 65 = .ok (.dup, 1) := dk_89 (dk_at dksJ8_putCharsAt_2 18 rfl rfl)
theorem dJ8_putCharsAt_66 : decode cJ8_putCharsAt 66 = .ok (.invokespecial 66, 3) := dk_183 0 66 (dk_at dksJ8_putCharsAt_2 19 rfl rfl)
theorem dJ8_putCharsAt_69 : decode cJ8_putCharsAt 69 = .ok (.athrow, 1) := dk_191 (dk_at dksJ8_putCharsAt_2 22 rfl rfl)
theorem dJ8_putCharsAt_70 : decode cJ8_putCharsAt 70 = .ok (.iload 6, 2) := dk_21 6 (dk_at dksJ8_putCharsAt_3 0 rfl rfl)
theorem dJ8_putCharsAt_72 : decode cJ8_putCharsAt 72 = .ok (.ireturn, 1) := dk_172 (dk_at dksJ8_putCharsAt_3 2 rfl rfl)
abbrev cJ8_checkBoundsBeginEnd : ByteArray := prog_43_method_93_code
def yJ8_checkBoundsBeginEnd : MethodName := ⟨RJ8, "checkBoundsBeginEnd", "(II[B)V"⟩
def dkwJ8_checkBoundsBeginEnd_0 : List UInt8 := [26, 27, 44, 184, 0, 48, 184, 0, 241, 177]
abbrev dktJ8_checkBoundsBeginEnd_0 : List UInt8 := dkwJ8_checkBoundsBeginEnd_0 ++ []
theorem dksJ8_checkBoundsBeginEnd_0 : cJ8_checkBoundsBeginEnd.data.toList.drop 0 = dktJ8_checkBoundsBeginEnd_0 := by decide +kernel
theorem dJ8_checkBoundsBeginEnd_0 : decode cJ8_checkBoundsBeginEnd 0 = .ok (.iload_n 0, 1) := dk_26 (dk_at dksJ8_checkBoundsBeginEnd_0 0 rfl rfl)
theorem dJ8_checkBoundsBeginEnd_1 : decode cJ8_checkBoundsBeginEnd 1 = .ok (.iload_n 1, 1) := dk_27 (dk_at dksJ8_checkBoundsBeginEnd_0 1 rfl rfl)
theorem dJ8_checkBoundsBeginEnd_2 : decode cJ8_checkBoundsBeginEnd 2 = .ok (.aload_n 2, 1) := dk_44 (dk_at dksJ8_checkBoundsBeginEnd_0 2 rfl rfl)
theorem dJ8_checkBoundsBeginEnd_3 : decode cJ8_checkBoundsBeginEnd 3 = .ok (.invokestatic 48, 3) := dk_184 0 48 (dk_at dksJ8_checkBoundsBeginEnd_0 3 rfl rfl)
theorem dJ8_checkBoundsBeginEnd_6 : decode cJ8_checkBoundsBeginEnd 6 = .ok (.invokestatic 241, 3) := dk_184 0 241 (dk_at dksJ8_checkBoundsBeginEnd_0 6 rfl rfl)
theorem dJ8_checkBoundsBeginEnd_9 : decode cJ8_checkBoundsBeginEnd 9 = .ok (.return_, 1) := dk_177 (dk_at dksJ8_checkBoundsBeginEnd_0 9 rfl rfl)
abbrev cJ8_length : ByteArray := prog_43_method_6_code
def yJ8_length : MethodName := ⟨RJ8, "length", "([B)I"⟩
def dkwJ8_length_0 : List UInt8 := [42, 190, 4, 122, 172]
abbrev dktJ8_length_0 : List UInt8 := dkwJ8_length_0 ++ []
theorem dksJ8_length_0 : cJ8_length.data.toList.drop 0 = dktJ8_length_0 := by decide +kernel
theorem dJ8_length_0 : decode cJ8_length 0 = .ok (.aload_n 0, 1) := dk_42 (dk_at dksJ8_length_0 0 rfl rfl)
theorem dJ8_length_1 : decode cJ8_length 1 = .ok (.arraylength, 1) := dk_190 (dk_at dksJ8_length_0 1 rfl rfl)
theorem dJ8_length_2 : decode cJ8_length 2 = .ok (.iconst 1, 1) := dk_4 (dk_at dksJ8_length_0 2 rfl rfl)
theorem dJ8_length_3 : decode cJ8_length 3 = .ok (.ishr, 1) := dk_122 (dk_at dksJ8_length_0 3 rfl rfl)
theorem dJ8_length_4 : decode cJ8_length 4 = .ok (.ireturn, 1) := dk_172 (dk_at dksJ8_length_0 4 rfl rfl)
abbrev cJ8_putChar : ByteArray := prog_43_method_4_code
def yJ8_putChar : MethodName := ⟨RJ8, "putChar", "([BII)V"⟩
def dkwJ8_putChar_2 : List UInt8 := [178, 0, 63, 122, 145, 84, 177]
abbrev dktJ8_putChar_2 : List UInt8 := dkwJ8_putChar_2 ++ []
def dkwJ8_putChar_1 : List UInt8 := [183, 0, 56, 191, 27, 4, 120, 60, 42, 27, 132, 1, 1, 28, 178, 0, 59, 122, 145, 84, 42, 27, 28]
abbrev dktJ8_putChar_1 : List UInt8 := dkwJ8_putChar_1 ++ dktJ8_putChar_2
def dkwJ8_putChar_0 : List UInt8 := [178, 0, 44, 154, 0, 25, 27, 155, 0, 11, 27, 42, 184, 0, 48, 161, 0, 13, 187, 0, 52, 89, 18, 54]
abbrev dktJ8_putChar_0 : List UInt8 := dkwJ8_putChar_0 ++ dktJ8_putChar_1
theorem dksJ8_putChar_0 : cJ8_putChar.data.toList.drop 0 = dktJ8_putChar_0 := by decide +kernel
theorem dksJ8_putChar_1 : cJ8_putChar.data.toList.drop 24 = dktJ8_putChar_1 := dk_seg dksJ8_putChar_0 24 rfl rfl
theorem dksJ8_putChar_2 : cJ8_putChar.data.toList.drop 47 = dktJ8_putChar_2 := dk_seg dksJ8_putChar_1 23 rfl rfl
theorem dJ8_putChar_0 : decode cJ8_putChar 0 = .ok (.getstatic 44, 3) := dk_178 0 44 (dk_at dksJ8_putChar_0 0 rfl rfl)
theorem dJ8_putChar_3 : decode cJ8_putChar 3 = .ok (.ifCond .ne 25, 3) := dk_154 0 25 (dk_at dksJ8_putChar_0 3 rfl rfl)
theorem dJ8_putChar_6 : decode cJ8_putChar 6 = .ok (.iload_n 1, 1) := dk_27 (dk_at dksJ8_putChar_0 6 rfl rfl)
theorem dJ8_putChar_7 : decode cJ8_putChar 7 = .ok (.ifCond .lt 11, 3) := dk_155 0 11 (dk_at dksJ8_putChar_0 7 rfl rfl)
theorem dJ8_putChar_10 : decode cJ8_putChar 10 = .ok (.iload_n 1, 1) := dk_27 (dk_at dksJ8_putChar_0 10 rfl rfl)
theorem dJ8_putChar_11 : decode cJ8_putChar 11 = .ok (.aload_n 0, 1) := dk_42 (dk_at dksJ8_putChar_0 11 rfl rfl)
theorem dJ8_putChar_12 : decode cJ8_putChar 12 = .ok (.invokestatic 48, 3) := dk_184 0 48 (dk_at dksJ8_putChar_0 12 rfl rfl)
theorem dJ8_putChar_15 : decode cJ8_putChar 15 = .ok (.if_icmp .lt 13, 3) := dk_161 0 13 (dk_at dksJ8_putChar_0 15 rfl rfl)
theorem dJ8_putChar_18 : decode cJ8_putChar 18 = .ok (.new 52, 3) := dk_187 0 52 (dk_at dksJ8_putChar_0 18 rfl rfl)
theorem dJ8_putChar_21 : decode cJ8_putChar 21 = .ok (.dup, 1) := dk_89 (dk_at dksJ8_putChar_0 21 rfl rfl)
theorem dJ8_putChar_22 : decode cJ8_putChar 22 = .ok (.ldc 54, 2) := dk_18 54 (dk_at dksJ8_putChar_0 22 rfl rfl)
theorem dJ8_putChar_24 : decode cJ8_putChar 24 = .ok (.invokespecial 56, 3) := dk_183 0 56 (dk_at dksJ8_putChar_1 0 rfl rfl)
theorem dJ8_putChar_27 : decode cJ8_putChar 27 = .ok (.athrow, 1) := dk_191 (dk_at dksJ8_putChar_1 3 rfl rfl)
theorem dJ8_putChar_28 : decode cJ8_putChar 28 = .ok (.iload_n 1, 1) := dk_27 (dk_at dksJ8_putChar_1 4 rfl rfl)
theorem dJ8_putChar_29 : decode cJ8_putChar 29 = .ok (.iconst 1, 1) := dk_4 (dk_at dksJ8_putChar_1 5 rfl rfl)
theorem dJ8_putChar_30 : decode cJ8_putChar 30 = .ok (.ishl, 1) := dk_120 (dk_at dksJ8_putChar_1 6 rfl rfl)
theorem dJ8_putChar_31 : decode cJ8_putChar 31 = .ok (.istore_n 1, 1) := dk_60 (dk_at dksJ8_putChar_1 7 rfl rfl)
theorem dJ8_putChar_32 : decode cJ8_putChar 32 = .ok (.aload_n 0, 1) := dk_42 (dk_at dksJ8_putChar_1 8 rfl rfl)
theorem dJ8_putChar_33 : decode cJ8_putChar 33 = .ok (.iload_n 1, 1) := dk_27 (dk_at dksJ8_putChar_1 9 rfl rfl)
theorem dJ8_putChar_34 : decode cJ8_putChar 34 = .ok (.iinc 1 1, 3) := dk_132 1 1 (dk_at dksJ8_putChar_1 10 rfl rfl)
theorem dJ8_putChar_37 : decode cJ8_putChar 37 = .ok (.iload_n 2, 1) := dk_28 (dk_at dksJ8_putChar_1 13 rfl rfl)
theorem dJ8_putChar_38 : decode cJ8_putChar 38 = .ok (.getstatic 59, 3) := dk_178 0 59 (dk_at dksJ8_putChar_1 14 rfl rfl)
theorem dJ8_putChar_41 : decode cJ8_putChar 41 = .ok (.ishr, 1) := dk_122 (dk_at dksJ8_putChar_1 17 rfl rfl)
theorem dJ8_putChar_42 : decode cJ8_putChar 42 = .ok (.i2b, 1) := dk_145 (dk_at dksJ8_putChar_1 18 rfl rfl)
theorem dJ8_putChar_43 : decode cJ8_putChar 43 = .ok (.bastore, 1) := dk_84 (dk_at dksJ8_putChar_1 19 rfl rfl)
theorem dJ8_putChar_44 : decode cJ8_putChar 44 = .ok (.aload_n 0, 1) := dk_42 (dk_at dksJ8_putChar_1 20 rfl rfl)
theorem dJ8_putChar_45 : decode cJ8_putChar 45 = .ok (.iload_n 1, 1) := dk_27 (dk_at dksJ8_putChar_1 21 rfl rfl)
theorem dJ8_putChar_46 : decode cJ8_putChar 46 = .ok (.iload_n 2, 1) := dk_28 (dk_at dksJ8_putChar_1 22 rfl rfl)
theorem dJ8_putChar_47 : decode cJ8_putChar 47 = .ok (.getstatic 63, 3) := dk_178 0 63 (dk_at dksJ8_putChar_2 0 rfl rfl)
theorem dJ8_putChar_50 : decode cJ8_putChar 50 = .ok (.ishr, 1) := dk_122 (dk_at dksJ8_putChar_2 3 rfl rfl)
theorem dJ8_putChar_51 : decode cJ8_putChar 51 = .ok (.i2b, 1) := dk_145 (dk_at dksJ8_putChar_2 4 rfl rfl)
theorem dJ8_putChar_52 : decode cJ8_putChar 52 = .ok (.bastore, 1) := dk_84 (dk_at dksJ8_putChar_2 5 rfl rfl)
theorem dJ8_putChar_53 : decode cJ8_putChar 53 = .ok (.return_, 1) := dk_177 (dk_at dksJ8_putChar_2 6 rfl rfl)
abbrev cJ8_inflate : ByteArray := prog_43_method_86_code
def yJ8_inflate : MethodName := ⟨RJ8, "inflate", "([BI[BII)V"⟩
def dkwJ8_inflate_1 : List UInt8 := [132, 1, 1, 51, 17, 0, 255, 126, 184, 0, 111, 132, 5, 1, 167, 255, 228, 177]
abbrev dktJ8_inflate_1 : List UInt8 := dkwJ8_inflate_1 ++ []
def dkwJ8_inflate_0 : List UInt8 := [29, 21, 4, 44, 184, 0, 173, 3, 54, 5, 21, 5, 21, 4, 162, 0, 27, 44, 29, 132, 3, 1, 42, 27]
abbrev dktJ8_inflate_0 : List UInt8 := dkwJ8_inflate_0 ++ dktJ8_inflate_1
theorem dksJ8_inflate_0 : cJ8_inflate.data.toList.drop 0 = dktJ8_inflate_0 := by decide +kernel
theorem dksJ8_inflate_1 : cJ8_inflate.data.toList.drop 24 = dktJ8_inflate_1 := dk_seg dksJ8_inflate_0 24 rfl rfl
theorem dJ8_inflate_0 : decode cJ8_inflate 0 = .ok (.iload_n 3, 1) := dk_29 (dk_at dksJ8_inflate_0 0 rfl rfl)
theorem dJ8_inflate_1 : decode cJ8_inflate 1 = .ok (.iload 4, 2) := dk_21 4 (dk_at dksJ8_inflate_0 1 rfl rfl)
theorem dJ8_inflate_3 : decode cJ8_inflate 3 = .ok (.aload_n 2, 1) := dk_44 (dk_at dksJ8_inflate_0 3 rfl rfl)
theorem dJ8_inflate_4 : decode cJ8_inflate 4 = .ok (.invokestatic 173, 3) := dk_184 0 173 (dk_at dksJ8_inflate_0 4 rfl rfl)
theorem dJ8_inflate_7 : decode cJ8_inflate 7 = .ok (.iconst 0, 1) := dk_3 (dk_at dksJ8_inflate_0 7 rfl rfl)
theorem dJ8_inflate_8 : decode cJ8_inflate 8 = .ok (.istore 5, 2) := dk_54 5 (dk_at dksJ8_inflate_0 8 rfl rfl)
theorem dJ8_inflate_10 : decode cJ8_inflate 10 = .ok (.iload 5, 2) := dk_21 5 (dk_at dksJ8_inflate_0 10 rfl rfl)
theorem dJ8_inflate_12 : decode cJ8_inflate 12 = .ok (.iload 4, 2) := dk_21 4 (dk_at dksJ8_inflate_0 12 rfl rfl)
theorem dJ8_inflate_14 : decode cJ8_inflate 14 = .ok (.if_icmp .ge 27, 3) := dk_162 0 27 (dk_at dksJ8_inflate_0 14 rfl rfl)
theorem dJ8_inflate_17 : decode cJ8_inflate 17 = .ok (.aload_n 2, 1) := dk_44 (dk_at dksJ8_inflate_0 17 rfl rfl)
theorem dJ8_inflate_18 : decode cJ8_inflate 18 = .ok (.iload_n 3, 1) := dk_29 (dk_at dksJ8_inflate_0 18 rfl rfl)
theorem dJ8_inflate_19 : decode cJ8_inflate 19 = .ok (.iinc 3 1, 3) := dk_132 3 1 (dk_at dksJ8_inflate_0 19 rfl rfl)
theorem dJ8_inflate_22 : decode cJ8_inflate 22 = .ok (.aload_n 0, 1) := dk_42 (dk_at dksJ8_inflate_0 22 rfl rfl)
theorem dJ8_inflate_23 : decode cJ8_inflate 23 = .ok (.iload_n 1, 1) := dk_27 (dk_at dksJ8_inflate_0 23 rfl rfl)
theorem dJ8_inflate_24 : decode cJ8_inflate 24 = .ok (.iinc 1 1, 3) := dk_132 1 1 (dk_at dksJ8_inflate_1 0 rfl rfl)
theorem dJ8_inflate_27 : decode cJ8_inflate 27 = .ok (.baload, 1) := dk_51 (dk_at dksJ8_inflate_1 3 rfl rfl)
theorem dJ8_inflate_28 : decode cJ8_inflate 28 = .ok (.sipush 255, 3) := dk_17 0 255 (dk_at dksJ8_inflate_1 4 rfl rfl)
theorem dJ8_inflate_31 : decode cJ8_inflate 31 = .ok (.iand, 1) := dk_126 (dk_at dksJ8_inflate_1 7 rfl rfl)
theorem dJ8_inflate_32 : decode cJ8_inflate 32 = .ok (.invokestatic 111, 3) := dk_184 0 111 (dk_at dksJ8_inflate_1 8 rfl rfl)
theorem dJ8_inflate_35 : decode cJ8_inflate 35 = .ok (.iinc 5 1, 3) := dk_132 5 1 (dk_at dksJ8_inflate_1 11 rfl rfl)
theorem dJ8_inflate_38 : decode cJ8_inflate 38 = .ok (.goto (-28), 3) := dk_167 255 228 (dk_at dksJ8_inflate_1 14 rfl rfl)
theorem dJ8_inflate_41 : decode cJ8_inflate 41 = .ok (.return_, 1) := dk_177 (dk_at dksJ8_inflate_1 17 rfl rfl)
abbrev cJ8_checkBoundsOffCount : ByteArray := prog_43_method_94_code
def yJ8_checkBoundsOffCount : MethodName := ⟨RJ8, "checkBoundsOffCount", "(II[B)V"⟩
def dkwJ8_checkBoundsOffCount_0 : List UInt8 := [26, 27, 44, 184, 0, 48, 184, 1, 163, 87, 177]
abbrev dktJ8_checkBoundsOffCount_0 : List UInt8 := dkwJ8_checkBoundsOffCount_0 ++ []
theorem dksJ8_checkBoundsOffCount_0 : cJ8_checkBoundsOffCount.data.toList.drop 0 = dktJ8_checkBoundsOffCount_0 := by decide +kernel
theorem dJ8_checkBoundsOffCount_0 : decode cJ8_checkBoundsOffCount 0 = .ok (.iload_n 0, 1) := dk_26 (dk_at dksJ8_checkBoundsOffCount_0 0 rfl rfl)
theorem dJ8_checkBoundsOffCount_1 : decode cJ8_checkBoundsOffCount 1 = .ok (.iload_n 1, 1) := dk_27 (dk_at dksJ8_checkBoundsOffCount_0 1 rfl rfl)
theorem dJ8_checkBoundsOffCount_2 : decode cJ8_checkBoundsOffCount 2 = .ok (.aload_n 2, 1) := dk_44 (dk_at dksJ8_checkBoundsOffCount_0 2 rfl rfl)
theorem dJ8_checkBoundsOffCount_3 : decode cJ8_checkBoundsOffCount 3 = .ok (.invokestatic 48, 3) := dk_184 0 48 (dk_at dksJ8_checkBoundsOffCount_0 3 rfl rfl)
theorem dJ8_checkBoundsOffCount_6 : decode cJ8_checkBoundsOffCount 6 = .ok (.invokestatic 419, 3) := dk_184 1 163 (dk_at dksJ8_checkBoundsOffCount_0 6 rfl rfl)
theorem dJ8_checkBoundsOffCount_9 : decode cJ8_checkBoundsOffCount 9 = .ok (.pop, 1) := dk_87 (dk_at dksJ8_checkBoundsOffCount_0 9 rfl rfl)
theorem dJ8_checkBoundsOffCount_10 : decode cJ8_checkBoundsOffCount 10 = .ok (.return_, 1) := dk_177 (dk_at dksJ8_checkBoundsOffCount_0 10 rfl rfl)
abbrev cJ8_getChars : ByteArray := prog_43_method_77_code
def yJ8_getChars : MethodName := ⟨RJ8, "getChars", "(III[B)I"⟩
def dkwJ8_getChars_1 : List UInt8 := [159, 0, 11, 187, 0, 52, 89, 183, 0, 66, 191, 21, 4, 172]
abbrev dktJ8_getChars_1 : List UInt8 := dkwJ8_getChars_1 ++ []
def dkwJ8_getChars_0 : List UInt8 := [27, 28, 45, 184, 0, 96, 26, 28, 45, 184, 1, 137, 54, 4, 178, 0, 44, 154, 0, 17, 27, 21, 4]
abbrev dktJ8_getChars_0 : List UInt8 := dkwJ8_getChars_0 ++ dktJ8_getChars_1
theorem dksJ8_getChars_0 : cJ8_getChars.data.toList.drop 0 = dktJ8_getChars_0 := by decide +kernel
theorem dksJ8_getChars_1 : cJ8_getChars.data.toList.drop 23 = dktJ8_getChars_1 := dk_seg dksJ8_getChars_0 23 rfl rfl
theorem dJ8_getChars_0 : decode cJ8_getChars 0 = .ok (.iload_n 1, 1) := dk_27 (dk_at dksJ8_getChars_0 0 rfl rfl)
theorem dJ8_getChars_1 : decode cJ8_getChars 1 = .ok (.iload_n 2, 1) := dk_28 (dk_at dksJ8_getChars_0 1 rfl rfl)
theorem dJ8_getChars_2 : decode cJ8_getChars 2 = .ok (.aload_n 3, 1) := dk_45 (dk_at dksJ8_getChars_0 2 rfl rfl)
theorem dJ8_getChars_3 : decode cJ8_getChars 3 = .ok (.invokestatic 96, 3) := dk_184 0 96 (dk_at dksJ8_getChars_0 3 rfl rfl)
theorem dJ8_getChars_6 : decode cJ8_getChars 6 = .ok (.iload_n 0, 1) := dk_26 (dk_at dksJ8_getChars_0 6 rfl rfl)
theorem dJ8_getChars_7 : decode cJ8_getChars 7 = .ok (.iload_n 2, 1) := dk_28 (dk_at dksJ8_getChars_0 7 rfl rfl)
theorem dJ8_getChars_8 : decode cJ8_getChars 8 = .ok (.aload_n 3, 1) := dk_45 (dk_at dksJ8_getChars_0 8 rfl rfl)
theorem dJ8_getChars_9 : decode cJ8_getChars 9 = .ok (.invokestatic 393, 3) := dk_184 1 137 (dk_at dksJ8_getChars_0 9 rfl rfl)
theorem dJ8_getChars_12 : decode cJ8_getChars 12 = .ok (.istore 4, 2) := dk_54 4 (dk_at dksJ8_getChars_0 12 rfl rfl)
theorem dJ8_getChars_14 : decode cJ8_getChars 14 = .ok (.getstatic 44, 3) := dk_178 0 44 (dk_at dksJ8_getChars_0 14 rfl rfl)
theorem dJ8_getChars_17 : decode cJ8_getChars 17 = .ok (.ifCond .ne 17, 3) := dk_154 0 17 (dk_at dksJ8_getChars_0 17 rfl rfl)
theorem dJ8_getChars_20 : decode cJ8_getChars 20 = .ok (.iload_n 1, 1) := dk_27 (dk_at dksJ8_getChars_0 20 rfl rfl)
theorem dJ8_getChars_21 : decode cJ8_getChars 21 = .ok (.iload 4, 2) := dk_21 4 (dk_at dksJ8_getChars_0 21 rfl rfl)
theorem dJ8_getChars_23 : decode cJ8_getChars 23 = .ok (.if_icmp .eq 11, 3) := dk_159 0 11 (dk_at dksJ8_getChars_1 0 rfl rfl)
theorem dJ8_getChars_26 : decode cJ8_getChars 26 = .ok (.new 52, 3) := dk_187 0 52 (dk_at dksJ8_getChars_1 3 rfl rfl)
theorem dJ8_getChars_29 : decode cJ8_getChars 29 = .ok (.dup, 1) := dk_89 (dk_at dksJ8_getChars_1 6 rfl rfl)
theorem dJ8_getChars_30 : decode cJ8_getChars 30 = .ok (.invokespecial 66, 3) := dk_183 0 66 (dk_at dksJ8_getChars_1 7 rfl rfl)
theorem dJ8_getChars_33 : decode cJ8_getChars 33 = .ok (.athrow, 1) := dk_191 (dk_at dksJ8_getChars_1 10 rfl rfl)
theorem dJ8_getChars_34 : decode cJ8_getChars 34 = .ok (.iload 4, 2) := dk_21 4 (dk_at dksJ8_getChars_1 11 rfl rfl)
theorem dJ8_getChars_36 : decode cJ8_getChars 36 = .ok (.ireturn, 1) := dk_172 (dk_at dksJ8_getChars_1 13 rfl rfl)
abbrev cJ8_getChars_2 : ByteArray := prog_43_method_89_code
def yJ8_getChars_2 : MethodName := ⟨RJ8, "getChars", "(II[B)I"⟩
def dkwJ8_getChars_2_5 : List UInt8 := [132, 5, 255, 21, 5, 16, 45, 184, 0, 111, 21, 5, 172]
abbrev dktJ8_getChars_2_5 : List UInt8 := dkwJ8_getChars_2_5 ++ []
def dkwJ8_getChars_2_4 : List UInt8 := [162, 0, 18, 44, 132, 5, 255, 21, 5, 178, 1, 151, 26, 116, 51, 184, 0, 111, 21, 6, 153, 0, 14, 44]
abbrev dktJ8_getChars_2_4 : List UInt8 := dkwJ8_getChars_2_4 ++ dktJ8_getChars_2_5
def dkwJ8_getChars_2_3 : List UInt8 := [184, 0, 111, 167, 255, 205, 44, 132, 5, 255, 21, 5, 178, 1, 147, 26, 116, 51, 184, 0, 111, 26, 16, 247]
abbrev dktJ8_getChars_2_3 : List UInt8 := dkwJ8_getChars_2_3 ++ dktJ8_getChars_2_4
def dkwJ8_getChars_2_2 : List UInt8 := [21, 5, 178, 1, 147, 21, 4, 51, 184, 0, 111, 44, 132, 5, 255, 21, 5, 178, 1, 151, 21, 4, 51]
abbrev dktJ8_getChars_2_2 : List UInt8 := dkwJ8_getChars_2_2 ++ dktJ8_getChars_2_3
def dkwJ8_getChars_2_1 : List UInt8 := [16, 156, 163, 0, 51, 26, 16, 100, 108, 62, 29, 16, 100, 104, 26, 100, 54, 4, 29, 59, 44, 132, 5, 255]
abbrev dktJ8_getChars_2_1 : List UInt8 := dkwJ8_getChars_2_1 ++ dktJ8_getChars_2_2
def dkwJ8_getChars_2_0 : List UInt8 := [27, 54, 5, 26, 156, 0, 7, 4, 167, 0, 4, 3, 54, 6, 21, 6, 154, 0, 6, 26, 116, 59, 26]
abbrev dktJ8_getChars_2_0 : List UInt8 := dkwJ8_getChars_2_0 ++ dktJ8_getChars_2_1
theorem dksJ8_getChars_2_0 : cJ8_getChars_2.data.toList.drop 0 = dktJ8_getChars_2_0 := by decide +kernel
theorem dksJ8_getChars_2_1 : cJ8_getChars_2.data.toList.drop 23 = dktJ8_getChars_2_1 := dk_seg dksJ8_getChars_2_0 23 rfl rfl
theorem dksJ8_getChars_2_2 : cJ8_getChars_2.data.toList.drop 47 = dktJ8_getChars_2_2 := dk_seg dksJ8_getChars_2_1 24 rfl rfl
theorem dksJ8_getChars_2_3 : cJ8_getChars_2.data.toList.drop 70 = dktJ8_getChars_2_3 := dk_seg dksJ8_getChars_2_2 23 rfl rfl
theorem dksJ8_getChars_2_4 : cJ8_getChars_2.data.toList.drop 94 = dktJ8_getChars_2_4 := dk_seg dksJ8_getChars_2_3 24 rfl rfl
theorem dksJ8_getChars_2_5 : cJ8_getChars_2.data.toList.drop 118 = dktJ8_getChars_2_5 := dk_seg dksJ8_getChars_2_4 24 rfl rfl
theorem dJ8_getChars_2_0 : decode cJ8_getChars_2 0 = .ok (.iload_n 1, 1) := dk_27 (dk_at dksJ8_getChars_2_0 0 rfl rfl)
theorem dJ8_getChars_2_1 : decode cJ8_getChars_2 1 = .ok (.istore 5, 2) := dk_54 5 (dk_at dksJ8_getChars_2_0 1 rfl rfl)
theorem dJ8_getChars_2_3 : decode cJ8_getChars_2 3 = .ok (.iload_n 0, 1) := dk_26 (dk_at dksJ8_getChars_2_0 3 rfl rfl)
theorem dJ8_getChars_2_4 : decode cJ8_getChars_2 4 = .ok (.ifCond .ge 7, 3) := dk_156 0 7 (dk_at dksJ8_getChars_2_0 4 rfl rfl)
theorem dJ8_getChars_2_7 : decode cJ8_getChars_2 7 = .ok (.iconst 1, 1) := dk_4 (dk_at dksJ8_getChars_2_0 7 rfl rfl)
theorem dJ8_getChars_2_8 : decode cJ8_getChars_2 8 = .ok (.goto 4, 3) := dk_167 0 4 (dk_at dksJ8_getChars_2_0 8 rfl rfl)
theorem dJ8_getChars_2_11 : decode cJ8_getChars_2 11 = .ok (.iconst 0, 1) := dk_3 (dk_at dksJ8_getChars_2_0 11 rfl rfl)
theorem dJ8_getChars_2_12 : decode cJ8_getChars_2 12 = .ok (.istore 6, 2) := dk_54 6 (dk_at dksJ8_getChars_2_0 12 rfl rfl)
theorem dJ8_getChars_2_14 : decode cJ8_getChars_2 14 = .ok (.iload 6, 2) := dk_21 6 (dk_at dksJ8_getChars_2_0 14 rfl rfl)
theorem dJ8_getChars_2_16 : decode cJ8_getChars_2 16 = .ok (.ifCond .ne 6, 3) := dk_154 0 6 (dk_at dksJ8_getChars_2_0 16 rfl rfl)
theorem dJ8_getChars_2_19 : decode cJ8_getChars_2 19 = .ok (.iload_n 0, 1) := dk_26 (dk_at dksJ8_getChars_2_0 19 rfl rfl)
theorem dJ8_getChars_2_20 : decode cJ8_getChars_2 20 = .ok (.ineg, 1) := dk_116 (dk_at dksJ8_getChars_2_0 20 rfl rfl)
theorem dJ8_getChars_2_21 : decode cJ8_getChars_2 21 = .ok (.istore_n 0, 1) := dk_59 (dk_at dksJ8_getChars_2_0 21 rfl rfl)
theorem dJ8_getChars_2_22 : decode cJ8_getChars_2 22 = .ok (.iload_n 0, 1) := dk_26 (dk_at dksJ8_getChars_2_0 22 rfl rfl)
theorem dJ8_getChars_2_23 : decode cJ8_getChars_2 23 = .ok (.bipush (-100), 2) := dk_16 156 (dk_at dksJ8_getChars_2_1 0 rfl rfl)
theorem dJ8_getChars_2_25 : decode cJ8_getChars_2 25 = .ok (.if_icmp .gt 51, 3) := dk_163 0 51 (dk_at dksJ8_getChars_2_1 2 rfl rfl)
theorem dJ8_getChars_2_28 : decode cJ8_getChars_2 28 = .ok (.iload_n 0, 1) := dk_26 (dk_at dksJ8_getChars_2_1 5 rfl rfl)
theorem dJ8_getChars_2_29 : decode cJ8_getChars_2 29 = .ok (.bipush 100, 2) := dk_16 100 (dk_at dksJ8_getChars_2_1 6 rfl rfl)
theorem dJ8_getChars_2_31 : decode cJ8_getChars_2 31 = .ok (.idiv, 1) := dk_108 (dk_at dksJ8_getChars_2_1 8 rfl rfl)
theorem dJ8_getChars_2_32 : decode cJ8_getChars_2 32 = .ok (.istore_n 3, 1) := dk_62 (dk_at dksJ8_getChars_2_1 9 rfl rfl)
theorem dJ8_getChars_2_33 : decode cJ8_getChars_2 33 = .ok (.iload_n 3, 1) := dk_29 (dk_at dksJ8_getChars_2_1 10 rfl rfl)
theorem dJ8_getChars_2_34 : decode cJ8_getChars_2 34 = .ok (.bipush 100, 2) := dk_16 100 (dk_at dksJ8_getChars_2_1 11 rfl rfl)
theorem dJ8_getChars_2_36 : decode cJ8_getChars_2 36 = .ok (.imul, 1) := dk_104 (dk_at dksJ8_getChars_2_1 13 rfl rfl)
theorem dJ8_getChars_2_37 : decode cJ8_getChars_2 37 = .ok (.iload_n 0, 1) := dk_26 (dk_at dksJ8_getChars_2_1 14 rfl rfl)
theorem dJ8_getChars_2_38 : decode cJ8_getChars_2 38 = .ok (.isub, 1) := dk_100 (dk_at dksJ8_getChars_2_1 15 rfl rfl)
theorem dJ8_getChars_2_39 : decode cJ8_getChars_2 39 = .ok (.istore 4, 2) := dk_54 4 (dk_at dksJ8_getChars_2_1 16 rfl rfl)
theorem dJ8_getChars_2_41 : decode cJ8_getChars_2 41 = .ok (.iload_n 3, 1) := dk_29 (dk_at dksJ8_getChars_2_1 18 rfl rfl)
theorem dJ8_getChars_2_42 : decode cJ8_getChars_2 42 = .ok (.istore_n 0, 1) := dk_59 (dk_at dksJ8_getChars_2_1 19 rfl rfl)
theorem dJ8_getChars_2_43 : decode cJ8_getChars_2 43 = .ok (.aload_n 2, 1) := dk_44 (dk_at dksJ8_getChars_2_1 20 rfl rfl)
theorem dJ8_getChars_2_44 : decode cJ8_getChars_2 44 = .ok (.iinc 5 (-1), 3) := dk_132 5 255 (dk_at dksJ8_getChars_2_1 21 rfl rfl)
theorem dJ8_getChars_2_47 : decode cJ8_getChars_2 47 = .ok (.iload 5, 2) := dk_21 5 (dk_at dksJ8_getChars_2_2 0 rfl rfl)
theorem dJ8_getChars_2_49 : decode cJ8_getChars_2 49 = .ok (.getstatic 403, 3) := dk_178 1 147 (dk_at dksJ8_getChars_2_2 2 rfl rfl)
theorem dJ8_getChars_2_52 : decode cJ8_getChars_2 52 = .ok (.iload 4, 2) := dk_21 4 (dk_at dksJ8_getChars_2_2 5 rfl rfl)
theorem dJ8_getChars_2_54 : decode cJ8_getChars_2 54 = .ok (.baload, 1) := dk_51 (dk_at dksJ8_getChars_2_2 7 rfl rfl)
theorem dJ8_getChars_2_55 : decode cJ8_getChars_2 55 = .ok (.invokestatic 111, 3) := dk_184 0 111 (dk_at dksJ8_getChars_2_2 8 rfl rfl)
theorem dJ8_getChars_2_58 : decode cJ8_getChars_2 58 = .ok (.aload_n 2, 1) := dk_44 (dk_at dksJ8_getChars_2_2 11 rfl rfl)
theorem dJ8_getChars_2_59 : decode cJ8_getChars_2 59 = .ok (.iinc 5 (-1), 3) := dk_132 5 255 (dk_at dksJ8_getChars_2_2 12 rfl rfl)
theorem dJ8_getChars_2_62 : decode cJ8_getChars_2 62 = .ok (.iload 5, 2) := dk_21 5 (dk_at dksJ8_getChars_2_2 15 rfl rfl)
theorem dJ8_getChars_2_64 : decode cJ8_getChars_2 64 = .ok (.getstatic 407, 3) := dk_178 1 151 (dk_at dksJ8_getChars_2_2 17 rfl rfl)
theorem dJ8_getChars_2_67 : decode cJ8_getChars_2 67 = .ok (.iload 4, 2) := dk_21 4 (dk_at dksJ8_getChars_2_2 20 rfl rfl)
theorem dJ8_getChars_2_69 : decode cJ8_getChars_2 69 = .ok (.baload, 1) := dk_51 (dk_at dksJ8_getChars_2_2 22 rfl rfl)
theorem dJ8_getChars_2_70 : decode cJ8_getChars_2 70 = .ok (.invokestatic 111, 3) := dk_184 0 111 (dk_at dksJ8_getChars_2_3 0 rfl rfl)
theorem dJ8_getChars_2_73 : decode cJ8_getChars_2 73 = .ok (.goto (-51), 3) := dk_167 255 205 (dk_at dksJ8_getChars_2_3 3 rfl rfl)
theorem dJ8_getChars_2_76 : decode cJ8_getChars_2 76 = .ok (.aload_n 2, 1) := dk_44 (dk_at dksJ8_getChars_2_3 6 rfl rfl)
theorem dJ8_getChars_2_77 : decode cJ8_getChars_2 77 = .ok (.iinc 5 (-1), 3) := dk_132 5 255 (dk_at dksJ8_getChars_2_3 7 rfl rfl)
theorem dJ8_getChars_2_80 : decode cJ8_getChars_2 80 = .ok (.iload 5, 2) := dk_21 5 (dk_at dksJ8_getChars_2_3 10 rfl rfl)
theorem dJ8_getChars_2_82 : decode cJ8_getChars_2 82 = .ok (.getstatic 403, 3) := dk_178 1 147 (dk_at dksJ8_getChars_2_3 12 rfl rfl)
theorem dJ8_getChars_2_85 : decode cJ8_getChars_2 85 = .ok (.iload_n 0, 1) := dk_26 (dk_at dksJ8_getChars_2_3 15 rfl rfl)
theorem dJ8_getChars_2_86 : decode cJ8_getChars_2 86 = .ok (.ineg, 1) := dk_116 (dk_at dksJ8_getChars_2_3 16 rfl rfl)
theorem dJ8_getChars_2_87 : decode cJ8_getChars_2 87 = .ok (.baload, 1) := dk_51 (dk_at dksJ8_getChars_2_3 17 rfl rfl)
theorem dJ8_getChars_2_88 : decode cJ8_getChars_2 88 = .ok (.invokestatic 111, 3) := dk_184 0 111 (dk_at dksJ8_getChars_2_3 18 rfl rfl)
theorem dJ8_getChars_2_91 : decode cJ8_getChars_2 91 = .ok (.iload_n 0, 1) := dk_26 (dk_at dksJ8_getChars_2_3 21 rfl rfl)
theorem dJ8_getChars_2_92 : decode cJ8_getChars_2 92 = .ok (.bipush (-9), 2) := dk_16 247 (dk_at dksJ8_getChars_2_3 22 rfl rfl)
theorem dJ8_getChars_2_94 : decode cJ8_getChars_2 94 = .ok (.if_icmp .ge 18, 3) := dk_162 0 18 (dk_at dksJ8_getChars_2_4 0 rfl rfl)
theorem dJ8_getChars_2_97 : decode cJ8_getChars_2 97 = .ok (.aload_n 2, 1) := dk_44 (dk_at dksJ8_getChars_2_4 3 rfl rfl)
theorem dJ8_getChars_2_98 : decode cJ8_getChars_2 98 = .ok (.iinc 5 (-1), 3) := dk_132 5 255 (dk_at dksJ8_getChars_2_4 4 rfl rfl)
theorem dJ8_getChars_2_101 : decode cJ8_getChars_2 101 = .ok (.iload 5, 2) := dk_21 5 (dk_at dksJ8_getChars_2_4 7 rfl rfl)
theorem dJ8_getChars_2_103 : decode cJ8_getChars_2 103 = .ok (.getstatic 407, 3) := dk_178 1 151 (dk_at dksJ8_getChars_2_4 9 rfl rfl)
theorem dJ8_getChars_2_106 : decode cJ8_getChars_2 106 = .ok (.iload_n 0, 1) := dk_26 (dk_at dksJ8_getChars_2_4 12 rfl rfl)
theorem dJ8_getChars_2_107 : decode cJ8_getChars_2 107 = .ok (.ineg, 1) := dk_116 (dk_at dksJ8_getChars_2_4 13 rfl rfl)
theorem dJ8_getChars_2_108 : decode cJ8_getChars_2 108 = .ok (.baload, 1) := dk_51 (dk_at dksJ8_getChars_2_4 14 rfl rfl)
theorem dJ8_getChars_2_109 : decode cJ8_getChars_2 109 = .ok (.invokestatic 111, 3) := dk_184 0 111 (dk_at dksJ8_getChars_2_4 15 rfl rfl)
theorem dJ8_getChars_2_112 : decode cJ8_getChars_2 112 = .ok (.iload 6, 2) := dk_21 6 (dk_at dksJ8_getChars_2_4 18 rfl rfl)
theorem dJ8_getChars_2_114 : decode cJ8_getChars_2 114 = .ok (.ifCond .eq 14, 3) := dk_153 0 14 (dk_at dksJ8_getChars_2_4 20 rfl rfl)
theorem dJ8_getChars_2_117 : decode cJ8_getChars_2 117 = .ok (.aload_n 2, 1) := dk_44 (dk_at dksJ8_getChars_2_4 23 rfl rfl)
theorem dJ8_getChars_2_118 : decode cJ8_getChars_2 118 = .ok (.iinc 5 (-1), 3) := dk_132 5 255 (dk_at dksJ8_getChars_2_5 0 rfl rfl)
theorem dJ8_getChars_2_121 : decode cJ8_getChars_2 121 = .ok (.iload 5, 2) := dk_21 5 (dk_at dksJ8_getChars_2_5 3 rfl rfl)
theorem dJ8_getChars_2_123 : decode cJ8_getChars_2 123 = .ok (.bipush 45, 2) := dk_16 45 (dk_at dksJ8_getChars_2_5 5 rfl rfl)
theorem dJ8_getChars_2_125 : decode cJ8_getChars_2 125 = .ok (.invokestatic 111, 3) := dk_184 0 111 (dk_at dksJ8_getChars_2_5 7 rfl rfl)
theorem dJ8_getChars_2_128 : decode cJ8_getChars_2 128 = .ok (.iload 5, 2) := dk_21 5 (dk_at dksJ8_getChars_2_5 10 rfl rfl)
theorem dJ8_getChars_2_130 : decode cJ8_getChars_2 130 = .ok (.ireturn, 1) := dk_172 (dk_at dksJ8_getChars_2_5 12 rfl rfl)
abbrev cJ8_compress : ByteArray := prog_43_method_17_code
def yJ8_compress : MethodName := ⟨RJ8, "compress", "([BII)[B"⟩
def dkwJ8_compress_2 : List UInt8 := [25, 5, 3, 45, 3, 28, 184, 0, 123, 28, 159, 0, 6, 25, 5, 176, 45, 176]
abbrev dktJ8_compress_2 : List UInt8 := dkwJ8_compress_2 ++ []
def dkwJ8_compress_1 : List UInt8 := [27, 28, 96, 184, 0, 11, 184, 0, 126, 58, 5, 25, 5, 21, 4, 184, 0, 71, 17, 0, 255, 163, 0, 16]
abbrev dktJ8_compress_1 : List UInt8 := dkwJ8_compress_1 ++ dktJ8_compress_2
def dkwJ8_compress_0 : List UInt8 := [28, 188, 8, 78, 42, 27, 45, 3, 28, 184, 0, 123, 54, 4, 21, 4, 28, 159, 0, 47, 42, 27, 4, 120]
abbrev dktJ8_compress_0 : List UInt8 := dkwJ8_compress_0 ++ dktJ8_compress_1
theorem dksJ8_compress_0 : cJ8_compress.data.toList.drop 0 = dktJ8_compress_0 := by decide +kernel
theorem dksJ8_compress_1 : cJ8_compress.data.toList.drop 24 = dktJ8_compress_1 := dk_seg dksJ8_compress_0 24 rfl rfl
theorem dksJ8_compress_2 : cJ8_compress.data.toList.drop 48 = dktJ8_compress_2 := dk_seg dksJ8_compress_1 24 rfl rfl
theorem dJ8_compress_0 : decode cJ8_compress 0 = .ok (.iload_n 2, 1) := dk_28 (dk_at dksJ8_compress_0 0 rfl rfl)
theorem dJ8_compress_1 : decode cJ8_compress 1 = .ok (.newarray .byte, 2) := dk_188_8 (dk_at dksJ8_compress_0 1 rfl rfl)
theorem dJ8_compress_3 : decode cJ8_compress 3 = .ok (.astore_n 3, 1) := dk_78 (dk_at dksJ8_compress_0 3 rfl rfl)
theorem dJ8_compress_4 : decode cJ8_compress 4 = .ok (.aload_n 0, 1) := dk_42 (dk_at dksJ8_compress_0 4 rfl rfl)
theorem dJ8_compress_5 : decode cJ8_compress 5 = .ok (.iload_n 1, 1) := dk_27 (dk_at dksJ8_compress_0 5 rfl rfl)
theorem dJ8_compress_6 : decode cJ8_compress 6 = .ok (.aload_n 3, 1) := dk_45 (dk_at dksJ8_compress_0 6 rfl rfl)
theorem dJ8_compress_7 : decode cJ8_compress 7 = .ok (.iconst 0, 1) := dk_3 (dk_at dksJ8_compress_0 7 rfl rfl)
theorem dJ8_compress_8 : decode cJ8_compress 8 = .ok (.iload_n 2, 1) := dk_28 (dk_at dksJ8_compress_0 8 rfl rfl)
theorem dJ8_compress_9 : decode cJ8_compress 9 = .ok (.invokestatic 123, 3) := dk_184 0 123 (dk_at dksJ8_compress_0 9 rfl rfl)
theorem dJ8_compress_12 : decode cJ8_compress 12 = .ok (.istore 4, 2) := dk_54 4 (dk_at dksJ8_compress_0 12 rfl rfl)
theorem dJ8_compress_14 : decode cJ8_compress 14 = .ok (.iload 4, 2) := dk_21 4 (dk_at dksJ8_compress_0 14 rfl rfl)
theorem dJ8_compress_16 : decode cJ8_compress 16 = .ok (.iload_n 2, 1) := dk_28 (dk_at dksJ8_compress_0 16 rfl rfl)
theorem dJ8_compress_17 : decode cJ8_compress 17 = .ok (.if_icmp .eq 47, 3) := dk_159 0 47 (dk_at dksJ8_compress_0 17 rfl rfl)
theorem dJ8_compress_20 : decode cJ8_compress 20 = .ok (.aload_n 0, 1) := dk_42 (dk_at dksJ8_compress_0 20 rfl rfl)
theorem dJ8_compress_21 : decode cJ8_compress 21 = .ok (.iload_n 1, 1) := dk_27 (dk_at dksJ8_compress_0 21 rfl rfl)
theorem dJ8_compress_22 : decode cJ8_compress 22 = .ok (.iconst 1, 1) := dk_4 (dk_at dksJ8_compress_0 22 rfl rfl)
theorem dJ8_compress_23 : decode cJ8_compress 23 = .ok (.ishl, 1) := dk_120 (dk_at dksJ8_compress_0 23 rfl rfl)
theorem dJ8_compress_24 : decode cJ8_compress 24 = .ok (.iload_n 1, 1) := dk_27 (dk_at dksJ8_compress_1 0 rfl rfl)
theorem dJ8_compress_25 : decode cJ8_compress 25 = .ok (.iload_n 2, 1) := dk_28 (dk_at dksJ8_compress_1 1 rfl rfl)
theorem dJ8_compress_26 : decode cJ8_compress 26 = .ok (.iadd, 1) := dk_96 (dk_at dksJ8_compress_1 2 rfl rfl)
theorem dJ8_compress_27 : decode cJ8_compress 27 = .ok (.invokestatic 11, 3) := dk_184 0 11 (dk_at dksJ8_compress_1 3 rfl rfl)
theorem dJ8_compress_30 : decode cJ8_compress 30 = .ok (.invokestatic 126, 3) := dk_184 0 126 (dk_at dksJ8_compress_1 6 rfl rfl)
theorem dJ8_compress_33 : decode cJ8_compress 33 = .ok (.astore 5, 2) := dk_58 5 (dk_at dksJ8_compress_1 9 rfl rfl)
theorem dJ8_compress_35 : decode cJ8_compress 35 = .ok (.aload 5, 2) := dk_25 5 (dk_at dksJ8_compress_1 11 rfl rfl)
theorem dJ8_compress_37 : decode cJ8_compress 37 = .ok (.iload 4, 2) := dk_21 4 (dk_at dksJ8_compress_1 13 rfl rfl)
theorem dJ8_compress_39 : decode cJ8_compress 39 = .ok (.invokestatic 71, 3) := dk_184 0 71 (dk_at dksJ8_compress_1 15 rfl rfl)
theorem dJ8_compress_42 : decode cJ8_compress 42 = .ok (.sipush 255, 3) := dk_17 0 255 (dk_at dksJ8_compress_1 18 rfl rfl)
theorem dJ8_compress_45 : decode cJ8_compress 45 = .ok (.if_icmp .gt 16, 3) := dk_163 0 16 (dk_at dksJ8_compress_1 21 rfl rfl)
theorem dJ8_compress_48 : decode cJ8_compress 48 = .ok (.aload 5, 2) := dk_25 5 (dk_at dksJ8_compress_2 0 rfl rfl)
theorem dJ8_compress_50 : decode cJ8_compress 50 = .ok (.iconst 0, 1) := dk_3 (dk_at dksJ8_compress_2 2 rfl rfl)
theorem dJ8_compress_51 : decode cJ8_compress 51 = .ok (.aload_n 3, 1) := dk_45 (dk_at dksJ8_compress_2 3 rfl rfl)
theorem dJ8_compress_52 : decode cJ8_compress 52 = .ok (.iconst 0, 1) := dk_3 (dk_at dksJ8_compress_2 4 rfl rfl)
theorem dJ8_compress_53 : decode cJ8_compress 53 = .ok (.iload_n 2, 1) := dk_28 (dk_at dksJ8_compress_2 5 rfl rfl)
theorem dJ8_compress_54 : decode cJ8_compress 54 = .ok (.invokestatic 123, 3) := dk_184 0 123 (dk_at dksJ8_compress_2 6 rfl rfl)
theorem dJ8_compress_57 : decode cJ8_compress 57 = .ok (.iload_n 2, 1) := dk_28 (dk_at dksJ8_compress_2 9 rfl rfl)
theorem dJ8_compress_58 : decode cJ8_compress 58 = .ok (.if_icmp .eq 6, 3) := dk_159 0 6 (dk_at dksJ8_compress_2 10 rfl rfl)
theorem dJ8_compress_61 : decode cJ8_compress 61 = .ok (.aload 5, 2) := dk_25 5 (dk_at dksJ8_compress_2 13 rfl rfl)
theorem dJ8_compress_63 : decode cJ8_compress 63 = .ok (.areturn, 1) := dk_176 (dk_at dksJ8_compress_2 15 rfl rfl)
theorem dJ8_compress_64 : decode cJ8_compress 64 = .ok (.aload_n 3, 1) := dk_45 (dk_at dksJ8_compress_2 16 rfl rfl)
theorem dJ8_compress_65 : decode cJ8_compress 65 = .ok (.areturn, 1) := dk_176 (dk_at dksJ8_compress_2 17 rfl rfl)
abbrev cJ8_compress_2 : ByteArray := prog_43_method_22_code
def yJ8_compress_2 : MethodName := ⟨RJ8, "compress", "([BI[BII)I"⟩
def dkwJ8_compress_2_2 : List UInt8 := [132, 5, 1, 167, 255, 216, 21, 4, 172]
abbrev dktJ8_compress_2_2 : List UInt8 := dkwJ8_compress_2_2 ++ []
def dkwJ8_compress_2_1 : List UInt8 := [21, 6, 17, 0, 255, 164, 0, 6, 21, 5, 172, 44, 29, 21, 6, 145, 84, 132, 1, 1, 132, 3, 1]
abbrev dktJ8_compress_2_1 : List UInt8 := dkwJ8_compress_2_1 ++ dktJ8_compress_2_2
def dkwJ8_compress_2_0 : List UInt8 := [27, 21, 4, 42, 184, 0, 173, 3, 54, 5, 21, 5, 21, 4, 162, 0, 39, 42, 27, 184, 0, 71, 54, 6]
abbrev dktJ8_compress_2_0 : List UInt8 := dkwJ8_compress_2_0 ++ dktJ8_compress_2_1
theorem dksJ8_compress_2_0 : cJ8_compress_2.data.toList.drop 0 = dktJ8_compress_2_0 := by decide +kernel
theorem dksJ8_compress_2_1 : cJ8_compress_2.data.toList.drop 24 = dktJ8_compress_2_1 := dk_seg dksJ8_compress_2_0 24 rfl rfl
theorem dksJ8_compress_2_2 : cJ8_compress_2.data.toList.drop 47 = dktJ8_compress_2_2 := dk_seg dksJ8_compress_2_1 23 rfl rfl
theorem dJ8_compress_2_0 : decode cJ8_compress_2 0 = .ok (.iload_n 1, 1) := dk_27 (dk_at dksJ8_compress_2_0 0 rfl rfl)
theorem dJ8_compress_2_1 : decode cJ8_compress_2 1 = .ok (.iload 4, 2) := dk_21 4 (dk_at dksJ8_compress_2_0 1 rfl rfl)
theorem dJ8_compress_2_3 : decode cJ8_compress_2 3 = .ok (.aload_n 0, 1) := dk_42 (dk_at dksJ8_compress_2_0 3 rfl rfl)
theorem dJ8_compress_2_4 : decode cJ8_compress_2 4 = .ok (.invokestatic 173, 3) := dk_184 0 173 (dk_at dksJ8_compress_2_0 4 rfl rfl)
theorem dJ8_compress_2_7 : decode cJ8_compress_2 7 = .ok (.iconst 0, 1) := dk_3 (dk_at dksJ8_compress_2_0 7 rfl rfl)
theorem dJ8_compress_2_8 : decode cJ8_compress_2 8 = .ok (.istore 5, 2) := dk_54 5 (dk_at dksJ8_compress_2_0 8 rfl rfl)
theorem dJ8_compress_2_10 : decode cJ8_compress_2 10 = .ok (.iload 5, 2) := dk_21 5 (dk_at dksJ8_compress_2_0 10 rfl rfl)
theorem dJ8_compress_2_12 : decode cJ8_compress_2 12 = .ok (.iload 4, 2) := dk_21 4 (dk_at dksJ8_compress_2_0 12 rfl rfl)
theorem dJ8_compress_2_14 : decode cJ8_compress_2 14 = .ok (.if_icmp .ge 39, 3) := dk_162 0 39 (dk_at dksJ8_compress_2_0 14 rfl rfl)
theorem dJ8_compress_2_17 : decode cJ8_compress_2 17 = .ok (.aload_n 0, 1) := dk_42 (dk_at dksJ8_compress_2_0 17 rfl rfl)
theorem dJ8_compress_2_18 : decode cJ8_compress_2 18 = .ok (.iload_n 1, 1) := dk_27 (dk_at dksJ8_compress_2_0 18 rfl rfl)
theorem dJ8_compress_2_19 : decode cJ8_compress_2 19 = .ok (.invokestatic 71, 3) := dk_184 0 71 (dk_at dksJ8_compress_2_0 19 rfl rfl)
theorem dJ8_compress_2_22 : decode cJ8_compress_2 22 = .ok (.istore 6, 2) := dk_54 6 (dk_at dksJ8_compress_2_0 22 rfl rfl)
theorem dJ8_compress_2_24 : decode cJ8_compress_2 24 = .ok (.iload 6, 2) := dk_21 6 (dk_at dksJ8_compress_2_1 0 rfl rfl)
theorem dJ8_compress_2_26 : decode cJ8_compress_2 26 = .ok (.sipush 255, 3) := dk_17 0 255 (dk_at dksJ8_compress_2_1 2 rfl rfl)
theorem dJ8_compress_2_29 : decode cJ8_compress_2 29 = .ok (.if_icmp .le 6, 3) := dk_164 0 6 (dk_at dksJ8_compress_2_1 5 rfl rfl)
theorem dJ8_compress_2_32 : decode cJ8_compress_2 32 = .ok (.iload 5, 2) := dk_21 5 (dk_at dksJ8_compress_2_1 8 rfl rfl)
theorem dJ8_compress_2_34 : decode cJ8_compress_2 34 = .ok (.ireturn, 1) := dk_172 (dk_at dksJ8_compress_2_1 10 rfl rfl)
theorem dJ8_compress_2_35 : decode cJ8_compress_2 35 = .ok (.aload_n 2, 1) := dk_44 (dk_at dksJ8_compress_2_1 11 rfl rfl)
theorem dJ8_compress_2_36 : decode cJ8_compress_2 36 = .ok (.iload_n 3, 1) := dk_29 (dk_at dksJ8_compress_2_1 12 rfl rfl)
theorem dJ8_compress_2_37 : decode cJ8_compress_2 37 = .ok (.iload 6, 2) := dk_21 6 (dk_at dksJ8_compress_2_1 13 rfl rfl)
theorem dJ8_compress_2_39 : decode cJ8_compress_2 39 = .ok (.i2b, 1) := dk_145 (dk_at dksJ8_compress_2_1 15 rfl rfl)
theorem dJ8_compress_2_40 : decode cJ8_compress_2 40 = .ok (.bastore, 1) := dk_84 (dk_at dksJ8_compress_2_1 16 rfl rfl)
theorem dJ8_compress_2_41 : decode cJ8_compress_2 41 = .ok (.iinc 1 1, 3) := dk_132 1 1 (dk_at dksJ8_compress_2_1 17 rfl rfl)
theorem dJ8_compress_2_44 : decode cJ8_compress_2 44 = .ok (.iinc 3 1, 3) := dk_132 3 1 (dk_at dksJ8_compress_2_1 20 rfl rfl)
theorem dJ8_compress_2_47 : decode cJ8_compress_2 47 = .ok (.iinc 5 1, 3) := dk_132 5 1 (dk_at dksJ8_compress_2_2 0 rfl rfl)
theorem dJ8_compress_2_50 : decode cJ8_compress_2 50 = .ok (.goto (-40), 3) := dk_167 255 216 (dk_at dksJ8_compress_2_2 3 rfl rfl)
theorem dJ8_compress_2_53 : decode cJ8_compress_2 53 = .ok (.iload 4, 2) := dk_21 4 (dk_at dksJ8_compress_2_2 6 rfl rfl)
theorem dJ8_compress_2_55 : decode cJ8_compress_2 55 = .ok (.ireturn, 1) := dk_172 (dk_at dksJ8_compress_2_2 8 rfl rfl)
abbrev cJ8_getChar : ByteArray := prog_43_method_5_code
def yJ8_getChar : MethodName := ⟨RJ8, "getChar", "([BI)C"⟩
def dkwJ8_getChar_2 : List UInt8 := [51, 17, 0, 255, 126, 178, 0, 63, 120, 128, 146, 172]
abbrev dktJ8_getChar_2 : List UInt8 := dkwJ8_getChar_2 ++ []
def dkwJ8_getChar_1 : List UInt8 := [183, 0, 56, 191, 27, 4, 120, 60, 42, 27, 132, 1, 1, 51, 17, 0, 255, 126, 178, 0, 59, 120, 42, 27]
abbrev dktJ8_getChar_1 : List UInt8 := dkwJ8_getChar_1 ++ dktJ8_getChar_2
def dkwJ8_getChar_0 : List UInt8 := [178, 0, 44, 154, 0, 25, 27, 155, 0, 11, 27, 42, 184, 0, 48, 161, 0, 13, 187, 0, 52, 89, 18, 54]
abbrev dktJ8_getChar_0 : List UInt8 := dkwJ8_getChar_0 ++ dktJ8_getChar_1
theorem dksJ8_getChar_0 : cJ8_getChar.data.toList.drop 0 = dktJ8_getChar_0 := by decide +kernel
theorem dksJ8_getChar_1 : cJ8_getChar.data.toList.drop 24 = dktJ8_getChar_1 := dk_seg dksJ8_getChar_0 24 rfl rfl
theorem dksJ8_getChar_2 : cJ8_getChar.data.toList.drop 48 = dktJ8_getChar_2 := dk_seg dksJ8_getChar_1 24 rfl rfl
theorem dJ8_getChar_0 : decode cJ8_getChar 0 = .ok (.getstatic 44, 3) := dk_178 0 44 (dk_at dksJ8_getChar_0 0 rfl rfl)
theorem dJ8_getChar_3 : decode cJ8_getChar 3 = .ok (.ifCond .ne 25, 3) := dk_154 0 25 (dk_at dksJ8_getChar_0 3 rfl rfl)
theorem dJ8_getChar_6 : decode cJ8_getChar 6 = .ok (.iload_n 1, 1) := dk_27 (dk_at dksJ8_getChar_0 6 rfl rfl)
theorem dJ8_getChar_7 : decode cJ8_getChar 7 = .ok (.ifCond .lt 11, 3) := dk_155 0 11 (dk_at dksJ8_getChar_0 7 rfl rfl)
theorem dJ8_getChar_10 : decode cJ8_getChar 10 = .ok (.iload_n 1, 1) := dk_27 (dk_at dksJ8_getChar_0 10 rfl rfl)
theorem dJ8_getChar_11 : decode cJ8_getChar 11 = .ok (.aload_n 0, 1) := dk_42 (dk_at dksJ8_getChar_0 11 rfl rfl)
theorem dJ8_getChar_12 : decode cJ8_getChar 12 = .ok (.invokestatic 48, 3) := dk_184 0 48 (dk_at dksJ8_getChar_0 12 rfl rfl)
theorem dJ8_getChar_15 : decode cJ8_getChar 15 = .ok (.if_icmp .lt 13, 3) := dk_161 0 13 (dk_at dksJ8_getChar_0 15 rfl rfl)
theorem dJ8_getChar_18 : decode cJ8_getChar 18 = .ok (.new 52, 3) := dk_187 0 52 (dk_at dksJ8_getChar_0 18 rfl rfl)
theorem dJ8_getChar_21 : decode cJ8_getChar 21 = .ok (.dup, 1) := dk_89 (dk_at dksJ8_getChar_0 21 rfl rfl)
theorem dJ8_getChar_22 : decode cJ8_getChar 22 = .ok (.ldc 54, 2) := dk_18 54 (dk_at dksJ8_getChar_0 22 rfl rfl)
theorem dJ8_getChar_24 : decode cJ8_getChar 24 = .ok (.invokespecial 56, 3) := dk_183 0 56 (dk_at dksJ8_getChar_1 0 rfl rfl)
theorem dJ8_getChar_27 : decode cJ8_getChar 27 = .ok (.athrow, 1) := dk_191 (dk_at dksJ8_getChar_1 3 rfl rfl)
theorem dJ8_getChar_28 : decode cJ8_getChar 28 = .ok (.iload_n 1, 1) := dk_27 (dk_at dksJ8_getChar_1 4 rfl rfl)
theorem dJ8_getChar_29 : decode cJ8_getChar 29 = .ok (.iconst 1, 1) := dk_4 (dk_at dksJ8_getChar_1 5 rfl rfl)
theorem dJ8_getChar_30 : decode cJ8_getChar 30 = .ok (.ishl, 1) := dk_120 (dk_at dksJ8_getChar_1 6 rfl rfl)
theorem dJ8_getChar_31 : decode cJ8_getChar 31 = .ok (.istore_n 1, 1) := dk_60 (dk_at dksJ8_getChar_1 7 rfl rfl)
theorem dJ8_getChar_32 : decode cJ8_getChar 32 = .ok (.aload_n 0, 1) := dk_42 (dk_at dksJ8_getChar_1 8 rfl rfl)
theorem dJ8_getChar_33 : decode cJ8_getChar 33 = .ok (.iload_n 1, 1) := dk_27 (dk_at dksJ8_getChar_1 9 rfl rfl)
theorem dJ8_getChar_34 : decode cJ8_getChar 34 = .ok (.iinc 1 1, 3) := dk_132 1 1 (dk_at dksJ8_getChar_1 10 rfl rfl)
theorem dJ8_getChar_37 : decode cJ8_getChar 37 = .ok (.baload, 1) := dk_51 (dk_at dksJ8_getChar_1 13 rfl rfl)
theorem dJ8_getChar_38 : decode cJ8_getChar 38 = .ok (.sipush 255, 3) := dk_17 0 255 (dk_at dksJ8_getChar_1 14 rfl rfl)
theorem dJ8_getChar_41 : decode cJ8_getChar 41 = .ok (.iand, 1) := dk_126 (dk_at dksJ8_getChar_1 17 rfl rfl)
theorem dJ8_getChar_42 : decode cJ8_getChar 42 = .ok (.getstatic 59, 3) := dk_178 0 59 (dk_at dksJ8_getChar_1 18 rfl rfl)
theorem dJ8_getChar_45 : decode cJ8_getChar 45 = .ok (.ishl, 1) := dk_120 (dk_at dksJ8_getChar_1 21 rfl rfl)
theorem dJ8_getChar_46 : decode cJ8_getChar 46 = .ok (.aload_n 0, 1) := dk_42 (dk_at dksJ8_getChar_1 22 rfl rfl)
theorem dJ8_getChar_47 : decode cJ8_getChar 47 = .ok (.iload_n 1, 1) := dk_27 (dk_at dksJ8_getChar_1 23 rfl rfl)
theorem dJ8_getChar_48 : decode cJ8_getChar 48 = .ok (.baload, 1) := dk_51 (dk_at dksJ8_getChar_2 0 rfl rfl)
theorem dJ8_getChar_49 : decode cJ8_getChar 49 = .ok (.sipush 255, 3) := dk_17 0 255 (dk_at dksJ8_getChar_2 1 rfl rfl)
theorem dJ8_getChar_52 : decode cJ8_getChar 52 = .ok (.iand, 1) := dk_126 (dk_at dksJ8_getChar_2 4 rfl rfl)
theorem dJ8_getChar_53 : decode cJ8_getChar 53 = .ok (.getstatic 63, 3) := dk_178 0 63 (dk_at dksJ8_getChar_2 5 rfl rfl)
theorem dJ8_getChar_56 : decode cJ8_getChar 56 = .ok (.ishl, 1) := dk_120 (dk_at dksJ8_getChar_2 8 rfl rfl)
theorem dJ8_getChar_57 : decode cJ8_getChar 57 = .ok (.ior, 1) := dk_128 (dk_at dksJ8_getChar_2 9 rfl rfl)
theorem dJ8_getChar_58 : decode cJ8_getChar 58 = .ok (.i2c, 1) := dk_146 (dk_at dksJ8_getChar_2 10 rfl rfl)
theorem dJ8_getChar_59 : decode cJ8_getChar 59 = .ok (.ireturn, 1) := dk_172 (dk_at dksJ8_getChar_2 11 rfl rfl)
abbrev cJ8_coderFromArrayLen : ByteArray := prog_43_method_15_code
def yJ8_coderFromArrayLen : MethodName := ⟨RJ8, "coderFromArrayLen", "([BI)B"⟩
def dkwJ8_coderFromArrayLen_0 : List UInt8 := [27, 42, 190, 100, 16, 31, 124, 145, 172]
abbrev dktJ8_coderFromArrayLen_0 : List UInt8 := dkwJ8_coderFromArrayLen_0 ++ []
theorem dksJ8_coderFromArrayLen_0 : cJ8_coderFromArrayLen.data.toList.drop 0 = dktJ8_coderFromArrayLen_0 := by decide +kernel
theorem dJ8_coderFromArrayLen_0 : decode cJ8_coderFromArrayLen 0 = .ok (.iload_n 1, 1) := dk_27 (dk_at dksJ8_coderFromArrayLen_0 0 rfl rfl)
theorem dJ8_coderFromArrayLen_1 : decode cJ8_coderFromArrayLen 1 = .ok (.aload_n 0, 1) := dk_42 (dk_at dksJ8_coderFromArrayLen_0 1 rfl rfl)
theorem dJ8_coderFromArrayLen_2 : decode cJ8_coderFromArrayLen 2 = .ok (.arraylength, 1) := dk_190 (dk_at dksJ8_coderFromArrayLen_0 2 rfl rfl)
theorem dJ8_coderFromArrayLen_3 : decode cJ8_coderFromArrayLen 3 = .ok (.isub, 1) := dk_100 (dk_at dksJ8_coderFromArrayLen_0 3 rfl rfl)
theorem dJ8_coderFromArrayLen_4 : decode cJ8_coderFromArrayLen 4 = .ok (.bipush 31, 2) := dk_16 31 (dk_at dksJ8_coderFromArrayLen_0 4 rfl rfl)
theorem dJ8_coderFromArrayLen_6 : decode cJ8_coderFromArrayLen 6 = .ok (.iushr, 1) := dk_124 (dk_at dksJ8_coderFromArrayLen_0 6 rfl rfl)
theorem dJ8_coderFromArrayLen_7 : decode cJ8_coderFromArrayLen 7 = .ok (.i2b, 1) := dk_145 (dk_at dksJ8_coderFromArrayLen_0 7 rfl rfl)
theorem dJ8_coderFromArrayLen_8 : decode cJ8_coderFromArrayLen 8 = .ok (.ireturn, 1) := dk_172 (dk_at dksJ8_coderFromArrayLen_0 8 rfl rfl)
abbrev cJ8_hashCode : ByteArray := prog_43_method_39_code
def yJ8_hashCode : MethodName := ⟨RJ8, "hashCode", "([B)I"⟩
def dkwJ8_hashCode_2 : List UInt8 := [3, 167, 0, 22, 42, 3, 184, 0, 71, 167, 0, 14, 42, 3, 42, 190, 4, 122, 3, 8, 184, 0, 220, 172]
abbrev dktJ8_hashCode_2 : List UInt8 := dkwJ8_hashCode_2 ++ []
def dkwJ8_hashCode_1 : List UInt8 := [171, 0, 0, 0, 0, 38, 0, 0, 0, 2, 0, 0, 0, 0, 0, 0, 0, 26, 0, 0, 0, 2, 0, 0, 0, 30]
abbrev dktJ8_hashCode_1 : List UInt8 := dkwJ8_hashCode_1 ++ dktJ8_hashCode_2
def dkwJ8_hashCode_0 : List UInt8 := [42, 190]
abbrev dktJ8_hashCode_0 : List UInt8 := dkwJ8_hashCode_0 ++ dktJ8_hashCode_1
theorem dksJ8_hashCode_0 : cJ8_hashCode.data.toList.drop 0 = dktJ8_hashCode_0 := by decide +kernel
theorem dksJ8_hashCode_1 : cJ8_hashCode.data.toList.drop 2 = dktJ8_hashCode_1 := dk_seg dksJ8_hashCode_0 2 rfl rfl
theorem dksJ8_hashCode_2 : cJ8_hashCode.data.toList.drop 28 = dktJ8_hashCode_2 := dk_seg dksJ8_hashCode_1 26 rfl rfl
theorem dJ8_hashCode_0 : decode cJ8_hashCode 0 = .ok (.aload_n 0, 1) := dk_42 (dk_at dksJ8_hashCode_0 0 rfl rfl)
theorem dJ8_hashCode_1 : decode cJ8_hashCode 1 = .ok (.arraylength, 1) := dk_190 (dk_at dksJ8_hashCode_0 1 rfl rfl)
theorem dJ8_hashCode_2 : decode cJ8_hashCode 2 = .ok (.lookupswitch 38 #[(0, 26), (2, 30)], 26) := by decide +kernel
theorem dJ8_hashCode_28 : decode cJ8_hashCode 28 = .ok (.iconst 0, 1) := dk_3 (dk_at dksJ8_hashCode_2 0 rfl rfl)
theorem dJ8_hashCode_29 : decode cJ8_hashCode 29 = .ok (.goto 22, 3) := dk_167 0 22 (dk_at dksJ8_hashCode_2 1 rfl rfl)
theorem dJ8_hashCode_32 : decode cJ8_hashCode 32 = .ok (.aload_n 0, 1) := dk_42 (dk_at dksJ8_hashCode_2 4 rfl rfl)
theorem dJ8_hashCode_33 : decode cJ8_hashCode 33 = .ok (.iconst 0, 1) := dk_3 (dk_at dksJ8_hashCode_2 5 rfl rfl)
theorem dJ8_hashCode_34 : decode cJ8_hashCode 34 = .ok (.invokestatic 71, 3) := dk_184 0 71 (dk_at dksJ8_hashCode_2 6 rfl rfl)
theorem dJ8_hashCode_37 : decode cJ8_hashCode 37 = .ok (.goto 14, 3) := dk_167 0 14 (dk_at dksJ8_hashCode_2 9 rfl rfl)
theorem dJ8_hashCode_40 : decode cJ8_hashCode 40 = .ok (.aload_n 0, 1) := dk_42 (dk_at dksJ8_hashCode_2 12 rfl rfl)
theorem dJ8_hashCode_41 : decode cJ8_hashCode 41 = .ok (.iconst 0, 1) := dk_3 (dk_at dksJ8_hashCode_2 13 rfl rfl)
theorem dJ8_hashCode_42 : decode cJ8_hashCode 42 = .ok (.aload_n 0, 1) := dk_42 (dk_at dksJ8_hashCode_2 14 rfl rfl)
theorem dJ8_hashCode_43 : decode cJ8_hashCode 43 = .ok (.arraylength, 1) := dk_190 (dk_at dksJ8_hashCode_2 15 rfl rfl)
theorem dJ8_hashCode_44 : decode cJ8_hashCode 44 = .ok (.iconst 1, 1) := dk_4 (dk_at dksJ8_hashCode_2 16 rfl rfl)
theorem dJ8_hashCode_45 : decode cJ8_hashCode 45 = .ok (.ishr, 1) := dk_122 (dk_at dksJ8_hashCode_2 17 rfl rfl)
theorem dJ8_hashCode_46 : decode cJ8_hashCode 46 = .ok (.iconst 0, 1) := dk_3 (dk_at dksJ8_hashCode_2 18 rfl rfl)
theorem dJ8_hashCode_47 : decode cJ8_hashCode 47 = .ok (.iconst 5, 1) := dk_8 (dk_at dksJ8_hashCode_2 19 rfl rfl)
theorem dJ8_hashCode_48 : decode cJ8_hashCode 48 = .ok (.invokestatic 220, 3) := dk_184 0 220 (dk_at dksJ8_hashCode_2 20 rfl rfl)
theorem dJ8_hashCode_51 : decode cJ8_hashCode 51 = .ok (.ireturn, 1) := dk_172 (dk_at dksJ8_hashCode_2 23 rfl rfl)
abbrev cJ8_putCharSB : ByteArray := prog_43_method_71_code
def yJ8_putCharSB : MethodName := ⟨RJ8, "putCharSB", "([BII)V"⟩
def dkwJ8_putCharSB_0 : List UInt8 := [27, 42, 184, 0, 67, 42, 27, 28, 184, 0, 111, 177]
abbrev dktJ8_putCharSB_0 : List UInt8 := dkwJ8_putCharSB_0 ++ []
theorem dksJ8_putCharSB_0 : cJ8_putCharSB.data.toList.drop 0 = dktJ8_putCharSB_0 := by decide +kernel
theorem dJ8_putCharSB_0 : decode cJ8_putCharSB 0 = .ok (.iload_n 1, 1) := dk_27 (dk_at dksJ8_putCharSB_0 0 rfl rfl)
theorem dJ8_putCharSB_1 : decode cJ8_putCharSB 1 = .ok (.aload_n 0, 1) := dk_42 (dk_at dksJ8_putCharSB_0 1 rfl rfl)
theorem dJ8_putCharSB_2 : decode cJ8_putCharSB 2 = .ok (.invokestatic 67, 3) := dk_184 0 67 (dk_at dksJ8_putCharSB_0 2 rfl rfl)
theorem dJ8_putCharSB_5 : decode cJ8_putCharSB 5 = .ok (.aload_n 0, 1) := dk_42 (dk_at dksJ8_putCharSB_0 5 rfl rfl)
theorem dJ8_putCharSB_6 : decode cJ8_putCharSB 6 = .ok (.iload_n 1, 1) := dk_27 (dk_at dksJ8_putCharSB_0 6 rfl rfl)
theorem dJ8_putCharSB_7 : decode cJ8_putCharSB 7 = .ok (.iload_n 2, 1) := dk_28 (dk_at dksJ8_putCharSB_0 7 rfl rfl)
theorem dJ8_putCharSB_8 : decode cJ8_putCharSB 8 = .ok (.invokestatic 111, 3) := dk_184 0 111 (dk_at dksJ8_putCharSB_0 8 rfl rfl)
theorem dJ8_putCharSB_11 : decode cJ8_putCharSB 11 = .ok (.return_, 1) := dk_177 (dk_at dksJ8_putCharSB_0 11 rfl rfl)
abbrev cJ8_checkIndex : ByteArray := prog_43_method_91_code
def yJ8_checkIndex : MethodName := ⟨RJ8, "checkIndex", "(I[B)V"⟩
def dkwJ8_checkIndex_0 : List UInt8 := [26, 43, 184, 0, 48, 184, 1, 158, 177]
abbrev dktJ8_checkIndex_0 : List UInt8 := dkwJ8_checkIndex_0 ++ []
theorem dksJ8_checkIndex_0 : cJ8_checkIndex.data.toList.drop 0 = dktJ8_checkIndex_0 := by decide +kernel
theorem dJ8_checkIndex_0 : decode cJ8_checkIndex 0 = .ok (.iload_n 0, 1) := dk_26 (dk_at dksJ8_checkIndex_0 0 rfl rfl)
theorem dJ8_checkIndex_1 : decode cJ8_checkIndex 1 = .ok (.aload_n 1, 1) := dk_43 (dk_at dksJ8_checkIndex_0 1 rfl rfl)
theorem dJ8_checkIndex_2 : decode cJ8_checkIndex 2 = .ok (.invokestatic 48, 3) := dk_184 0 48 (dk_at dksJ8_checkIndex_0 2 rfl rfl)
theorem dJ8_checkIndex_5 : decode cJ8_checkIndex 5 = .ok (.invokestatic 414, 3) := dk_184 1 158 (dk_at dksJ8_checkIndex_0 5 rfl rfl)
theorem dJ8_checkIndex_8 : decode cJ8_checkIndex 8 = .ok (.return_, 1) := dk_177 (dk_at dksJ8_checkIndex_0 8 rfl rfl)
abbrev cJ8_indexOf : ByteArray := prog_43_method_40_code
def yJ8_indexOf : MethodName := ⟨RJ8, "indexOf", "([BIII)I"⟩
def dkwJ8_indexOf_1 : List UInt8 := [18, 227, 162, 0, 11, 42, 27, 28, 29, 184, 0, 228, 172, 42, 27, 28, 29, 184, 0, 232, 172]
abbrev dktJ8_indexOf_1 : List UInt8 := dkwJ8_indexOf_1 ++ []
def dkwJ8_indexOf_0 : List UInt8 := [28, 3, 184, 0, 224, 61, 29, 42, 190, 4, 122, 184, 0, 183, 62, 28, 29, 161, 0, 5, 2, 172, 27]
abbrev dktJ8_indexOf_0 : List UInt8 := dkwJ8_indexOf_0 ++ dktJ8_indexOf_1
theorem dksJ8_indexOf_0 : cJ8_indexOf.data.toList.drop 0 = dktJ8_indexOf_0 := by decide +kernel
theorem dksJ8_indexOf_1 : cJ8_indexOf.data.toList.drop 23 = dktJ8_indexOf_1 := dk_seg dksJ8_indexOf_0 23 rfl rfl
theorem dJ8_indexOf_0 : decode cJ8_indexOf 0 = .ok (.iload_n 2, 1) := dk_28 (dk_at dksJ8_indexOf_0 0 rfl rfl)
theorem dJ8_indexOf_1 : decode cJ8_indexOf 1 = .ok (.iconst 0, 1) := dk_3 (dk_at dksJ8_indexOf_0 1 rfl rfl)
theorem dJ8_indexOf_2 : decode cJ8_indexOf 2 = .ok (.invokestatic 224, 3) := dk_184 0 224 (dk_at dksJ8_indexOf_0 2 rfl rfl)
theorem dJ8_indexOf_5 : decode cJ8_indexOf 5 = .ok (.istore_n 2, 1) := dk_61 (dk_at dksJ8_indexOf_0 5 rfl rfl)
theorem dJ8_indexOf_6 : decode cJ8_indexOf 6 = .ok (.iload_n 3, 1) := dk_29 (dk_at dksJ8_indexOf_0 6 rfl rfl)
theorem dJ8_indexOf_7 : decode cJ8_indexOf 7 = .ok (.aload_n 0, 1) := dk_42 (dk_at dksJ8_indexOf_0 7 rfl rfl)
theorem dJ8_indexOf_8 : decode cJ8_indexOf 8 = .ok (.arraylength, 1) := dk_190 (dk_at dksJ8_indexOf_0 8 rfl rfl)
theorem dJ8_indexOf_9 : decode cJ8_indexOf 9 = .ok (.iconst 1, 1) := dk_4 (dk_at dksJ8_indexOf_0 9 rfl rfl)
theorem dJ8_indexOf_10 : decode cJ8_indexOf 10 = .ok (.ishr, 1) := dk_122 (dk_at dksJ8_indexOf_0 10 rfl rfl)
theorem dJ8_indexOf_11 : decode cJ8_indexOf 11 = .ok (.invokestatic 183, 3) := dk_184 0 183 (dk_at dksJ8_indexOf_0 11 rfl rfl)
theorem dJ8_indexOf_14 : decode cJ8_indexOf 14 = .ok (.istore_n 3, 1) := dk_62 (dk_at dksJ8_indexOf_0 14 rfl rfl)
theorem dJ8_indexOf_15 : decode cJ8_indexOf 15 = .ok (.iload_n 2, 1) := dk_28 (dk_at dksJ8_indexOf_0 15 rfl rfl)
theorem dJ8_indexOf_16 : decode cJ8_indexOf 16 = .ok (.iload_n 3, 1) := dk_29 (dk_at dksJ8_indexOf_0 16 rfl rfl)
theorem dJ8_indexOf_17 : decode cJ8_indexOf 17 = .ok (.if_icmp .lt 5, 3) := dk_161 0 5 (dk_at dksJ8_indexOf_0 17 rfl rfl)
theorem dJ8_indexOf_20 : decode cJ8_indexOf 20 = .ok (.iconst (-1), 1) := dk_2 (dk_at dksJ8_indexOf_0 20 rfl rfl)
theorem dJ8_indexOf_21 : decode cJ8_indexOf 21 = .ok (.ireturn, 1) := dk_172 (dk_at dksJ8_indexOf_0 21 rfl rfl)
theorem dJ8_indexOf_22 : decode cJ8_indexOf 22 = .ok (.iload_n 1, 1) := dk_27 (dk_at dksJ8_indexOf_0 22 rfl rfl)
theorem dJ8_indexOf_23 : decode cJ8_indexOf 23 = .ok (.ldc 227, 2) := dk_18 227 (dk_at dksJ8_indexOf_1 0 rfl rfl)
theorem dJ8_indexOf_25 : decode cJ8_indexOf 25 = .ok (.if_icmp .ge 11, 3) := dk_162 0 11 (dk_at dksJ8_indexOf_1 2 rfl rfl)
theorem dJ8_indexOf_28 : decode cJ8_indexOf 28 = .ok (.aload_n 0, 1) := dk_42 (dk_at dksJ8_indexOf_1 5 rfl rfl)
theorem dJ8_indexOf_29 : decode cJ8_indexOf 29 = .ok (.iload_n 1, 1) := dk_27 (dk_at dksJ8_indexOf_1 6 rfl rfl)
theorem dJ8_indexOf_30 : decode cJ8_indexOf 30 = .ok (.iload_n 2, 1) := dk_28 (dk_at dksJ8_indexOf_1 7 rfl rfl)
theorem dJ8_indexOf_31 : decode cJ8_indexOf 31 = .ok (.iload_n 3, 1) := dk_29 (dk_at dksJ8_indexOf_1 8 rfl rfl)
theorem dJ8_indexOf_32 : decode cJ8_indexOf 32 = .ok (.invokestatic 228, 3) := dk_184 0 228 (dk_at dksJ8_indexOf_1 9 rfl rfl)
theorem dJ8_indexOf_35 : decode cJ8_indexOf 35 = .ok (.ireturn, 1) := dk_172 (dk_at dksJ8_indexOf_1 12 rfl rfl)
theorem dJ8_indexOf_36 : decode cJ8_indexOf 36 = .ok (.aload_n 0, 1) := dk_42 (dk_at dksJ8_indexOf_1 13 rfl rfl)
theorem dJ8_indexOf_37 : decode cJ8_indexOf 37 = .ok (.iload_n 1, 1) := dk_27 (dk_at dksJ8_indexOf_1 14 rfl rfl)
theorem dJ8_indexOf_38 : decode cJ8_indexOf 38 = .ok (.iload_n 2, 1) := dk_28 (dk_at dksJ8_indexOf_1 15 rfl rfl)
theorem dJ8_indexOf_39 : decode cJ8_indexOf 39 = .ok (.iload_n 3, 1) := dk_29 (dk_at dksJ8_indexOf_1 16 rfl rfl)
theorem dJ8_indexOf_40 : decode cJ8_indexOf 40 = .ok (.invokestatic 232, 3) := dk_184 0 232 (dk_at dksJ8_indexOf_1 17 rfl rfl)
theorem dJ8_indexOf_43 : decode cJ8_indexOf 43 = .ok (.ireturn, 1) := dk_172 (dk_at dksJ8_indexOf_1 20 rfl rfl)
abbrev cJ8_indexOfChar : ByteArray := prog_43_method_47_code
def yJ8_indexOfChar : MethodName := ⟨RJ8, "indexOfChar", "([BIII)I"⟩
def dkwJ8_indexOfChar_0 : List UInt8 := [28, 29, 42, 184, 0, 96, 42, 27, 28, 29, 184, 0, 244, 172]
abbrev dktJ8_indexOfChar_0 : List UInt8 := dkwJ8_indexOfChar_0 ++ []
theorem dksJ8_indexOfChar_0 : cJ8_indexOfChar.data.toList.drop 0 = dktJ8_indexOfChar_0 := by decide +kernel
theorem dJ8_indexOfChar_0 : decode cJ8_indexOfChar 0 = .ok (.iload_n 2, 1) := dk_28 (dk_at dksJ8_indexOfChar_0 0 rfl rfl)
theorem dJ8_indexOfChar_1 : decode cJ8_indexOfChar 1 = .ok (.iload_n 3, 1) := dk_29 (dk_at dksJ8_indexOfChar_0 1 rfl rfl)
theorem dJ8_indexOfChar_2 : decode cJ8_indexOfChar 2 = .ok (.aload_n 0, 1) := dk_42 (dk_at dksJ8_indexOfChar_0 2 rfl rfl)
theorem dJ8_indexOfChar_3 : decode cJ8_indexOfChar 3 = .ok (.invokestatic 96, 3) := dk_184 0 96 (dk_at dksJ8_indexOfChar_0 3 rfl rfl)
theorem dJ8_indexOfChar_6 : decode cJ8_indexOfChar 6 = .ok (.aload_n 0, 1) := dk_42 (dk_at dksJ8_indexOfChar_0 6 rfl rfl)
theorem dJ8_indexOfChar_7 : decode cJ8_indexOfChar 7 = .ok (.iload_n 1, 1) := dk_27 (dk_at dksJ8_indexOfChar_0 7 rfl rfl)
theorem dJ8_indexOfChar_8 : decode cJ8_indexOfChar 8 = .ok (.iload_n 2, 1) := dk_28 (dk_at dksJ8_indexOfChar_0 8 rfl rfl)
theorem dJ8_indexOfChar_9 : decode cJ8_indexOfChar 9 = .ok (.iload_n 3, 1) := dk_29 (dk_at dksJ8_indexOfChar_0 9 rfl rfl)
theorem dJ8_indexOfChar_10 : decode cJ8_indexOfChar 10 = .ok (.invokestatic 244, 3) := dk_184 0 244 (dk_at dksJ8_indexOfChar_0 10 rfl rfl)
theorem dJ8_indexOfChar_13 : decode cJ8_indexOfChar 13 = .ok (.ireturn, 1) := dk_172 (dk_at dksJ8_indexOfChar_0 13 rfl rfl)
abbrev cJ8_indexOfCharUnsafe : ByteArray := prog_43_method_48_code
def yJ8_indexOfCharUnsafe : MethodName := ⟨RJ8, "indexOfCharUnsafe", "([BIII)I"⟩
def dkwJ8_indexOfCharUnsafe_1 : List UInt8 := [132, 4, 1, 167, 255, 234, 2, 172]
abbrev dktJ8_indexOfCharUnsafe_1 : List UInt8 := dkwJ8_indexOfCharUnsafe_1 ++ []
def dkwJ8_indexOfCharUnsafe_0 : List UInt8 := [28, 54, 4, 21, 4, 29, 162, 0, 22, 42, 21, 4, 184, 0, 71, 27, 160, 0, 6, 21, 4, 172]
abbrev dktJ8_indexOfCharUnsafe_0 : List UInt8 := dkwJ8_indexOfCharUnsafe_0 ++ dktJ8_indexOfCharUnsafe_1
theorem dksJ8_indexOfCharUnsafe_0 : cJ8_indexOfCharUnsafe.data.toList.drop 0 = dktJ8_indexOfCharUnsafe_0 := by decide +kernel
theorem dksJ8_indexOfCharUnsafe_1 : cJ8_indexOfCharUnsafe.data.toList.drop 22 = dktJ8_indexOfCharUnsafe_1 := dk_seg dksJ8_indexOfCharUnsafe_0 22 rfl rfl
theorem dJ8_indexOfCharUnsafe_0 : decode cJ8_indexOfCharUnsafe 0 = .ok (.iload_n 2, 1) := dk_28 (dk_at dksJ8_indexOfCharUnsafe_0 0 rfl rfl)
theorem dJ8_indexOfCharUnsafe_1 : decode cJ8_indexOfCharUnsafe 1 = .ok (.istore 4, 2) := dk_54 4 (dk_at dksJ8_indexOfCharUnsafe_0 1 rfl rfl)
theorem dJ8_indexOfCharUnsafe_3 : decode cJ8_indexOfCharUnsafe 3 = .ok (.iload 4, 2) := dk_21 4 (dk_at dksJ8_indexOfCharUnsafe_0 3 rfl rfl)
theorem dJ8_indexOfCharUnsafe_5 : decode cJ8_indexOfCharUnsafe 5 = .ok (.iload_n 3, 1) := dk_29 (dk_at dksJ8_indexOfCharUnsafe_0 5 rfl rfl)
theorem dJ8_indexOfCharUnsafe_6 : decode cJ8_indexOfCharUnsafe 6 = .ok (.if_icmp .ge 22, 3) := dk_162 0 22 (dk_at dksJ8_indexOfCharUnsafe_0 6 rfl rfl)
theorem dJ8_indexOfCharUnsafe_9 : decode cJ8_indexOfCharUnsafe 9 = .ok (.aload_n 0, 1) := dk_42 (dk_at dksJ8_indexOfCharUnsafe_0 9 rfl rfl)
theorem dJ8_indexOfCharUnsafe_10 : decode cJ8_indexOfCharUnsafe 10 = .ok (.iload 4, 2) := dk_21 4 (dk_at dksJ8_indexOfCharUnsafe_0 10 rfl rfl)
theorem dJ8_indexOfCharUnsafe_12 : decode cJ8_indexOfCharUnsafe 12 = .ok (.invokestatic 71, 3) := dk_184 0 71 (dk_at dksJ8_indexOfCharUnsafe_0 12 rfl rfl)
theorem dJ8_indexOfCharUnsafe_15 : decode cJ8_indexOfCharUnsafe 15 = .ok (.iload_n 1, 1) := dk_27 (dk_at dksJ8_indexOfCharUnsafe_0 15 rfl rfl)
theorem dJ8_indexOfCharUnsafe_16 : decode cJ8_indexOfCharUnsafe 16 = .ok (.if_icmp .ne 6, 3) := dk_160 0 6 (dk_at dksJ8_indexOfCharUnsafe_0 16 rfl rfl)
theorem dJ8_indexOfCharUnsafe_19 : decode cJ8_indexOfCharUnsafe 19 = .ok (.iload 4, 2) := dk_21 4 (dk_at dksJ8_indexOfCharUnsafe_0 19 rfl rfl)
theorem dJ8_indexOfCharUnsafe_21 : decode cJ8_indexOfCharUnsafe 21 = .ok (.ireturn, 1) := dk_172 (dk_at dksJ8_indexOfCharUnsafe_0 21 rfl rfl)
theorem dJ8_indexOfCharUnsafe_22 : decode cJ8_indexOfCharUnsafe 22 = .ok (.iinc 4 1, 3) := dk_132 4 1 (dk_at dksJ8_indexOfCharUnsafe_1 0 rfl rfl)
theorem dJ8_indexOfCharUnsafe_25 : decode cJ8_indexOfCharUnsafe 25 = .ok (.goto (-22), 3) := dk_167 255 234 (dk_at dksJ8_indexOfCharUnsafe_1 3 rfl rfl)
theorem dJ8_indexOfCharUnsafe_28 : decode cJ8_indexOfCharUnsafe 28 = .ok (.iconst (-1), 1) := dk_2 (dk_at dksJ8_indexOfCharUnsafe_1 6 rfl rfl)
theorem dJ8_indexOfCharUnsafe_29 : decode cJ8_indexOfCharUnsafe 29 = .ok (.ireturn, 1) := dk_172 (dk_at dksJ8_indexOfCharUnsafe_1 7 rfl rfl)
abbrev cJ8_indexOfSupplementary : ByteArray := prog_43_method_49_code
def yJ8_indexOfSupplementary : MethodName := ⟨RJ8, "indexOfSupplementary", "([BIII)I"⟩
def dkwJ8_indexOfSupplementary_3 : List UInt8 := [167, 255, 218, 2, 172]
abbrev dktJ8_indexOfSupplementary_3 : List UInt8 := dkwJ8_indexOfSupplementary_3 ++ []
def dkwJ8_indexOfSupplementary_2 : List UInt8 := [160, 0, 19, 42, 21, 6, 4, 96, 184, 0, 71, 21, 5, 160, 0, 6, 21, 6, 172, 132, 6, 1]
abbrev dktJ8_indexOfSupplementary_2 : List UInt8 := dkwJ8_indexOfSupplementary_2 ++ dktJ8_indexOfSupplementary_3
def dkwJ8_indexOfSupplementary_1 : List UInt8 := [184, 0, 96, 28, 54, 6, 21, 6, 29, 4, 100, 162, 0, 36, 42, 21, 6, 184, 0, 71, 21, 4]
abbrev dktJ8_indexOfSupplementary_1 : List UInt8 := dkwJ8_indexOfSupplementary_1 ++ dktJ8_indexOfSupplementary_2
def dkwJ8_indexOfSupplementary_0 : List UInt8 := [27, 184, 0, 164, 153, 0, 65, 27, 184, 0, 157, 54, 4, 27, 184, 0, 161, 54, 5, 28, 29, 42]
abbrev dktJ8_indexOfSupplementary_0 : List UInt8 := dkwJ8_indexOfSupplementary_0 ++ dktJ8_indexOfSupplementary_1
theorem dksJ8_indexOfSupplementary_0 : cJ8_indexOfSupplementary.data.toList.drop 0 = dktJ8_indexOfSupplementary_0 := by decide +kernel
theorem dksJ8_indexOfSupplementary_1 : cJ8_indexOfSupplementary.data.toList.drop 22 = dktJ8_indexOfSupplementary_1 := dk_seg dksJ8_indexOfSupplementary_0 22 rfl rfl
theorem dksJ8_indexOfSupplementary_2 : cJ8_indexOfSupplementary.data.toList.drop 44 = dktJ8_indexOfSupplementary_2 := dk_seg dksJ8_indexOfSupplementary_1 22 rfl rfl
theorem dksJ8_indexOfSupplementary_3 : cJ8_indexOfSupplementary.data.toList.drop 66 = dktJ8_indexOfSupplementary_3 := dk_seg dksJ8_indexOfSupplementary_2 22 rfl rfl
theorem dJ8_indexOfSupplementary_0 : decode cJ8_indexOfSupplementary 0 = .ok (.iload_n 1, 1) := dk_27 (dk_at dksJ8_indexOfSupplementary_0 0 rfl rfl)
theorem dJ8_indexOfSupplementary_1 : decode cJ8_indexOfSupplementary 1 = .ok (.invokestatic 164, 3) := dk_184 0 164 (dk_at dksJ8_indexOfSupplementary_0 1 rfl rfl)
theorem dJ8_indexOfSupplementary_4 : decode cJ8_indexOfSupplementary 4 = .ok (.ifCond .eq 65, 3) := dk_153 0 65 (dk_at dksJ8_indexOfSupplementary_0 4 rfl rfl)
theorem dJ8_indexOfSupplementary_7 : decode cJ8_indexOfSupplementary 7 = .ok (.iload_n 1, 1) := dk_27 (dk_at dksJ8_indexOfSupplementary_0 7 rfl rfl)
theorem dJ8_indexOfSupplementary_8 : decode cJ8_indexOfSupplementary 8 = .ok (.invokestatic 157, 3) := dk_184 0 157 (dk_at dksJ8_indexOfSupplementary_0 8 rfl rfl)
theorem dJ8_indexOfSupplementary_11 : decode cJ8_indexOfSupplementary 11 = .ok (.istore 4, 2) := dk_54 4 (dk_at dksJ8_indexOfSupplementary_0 11 rfl rfl)
theorem dJ8_indexOfSupplementary_13 : decode cJ8_indexOfSupplementary 13 = .ok (.iload_n 1, 1) := dk_27 (dk_at dksJ8_indexOfSupplementary_0 13 rfl rfl)
theorem dJ8_indexOfSupplementary_14 : decode cJ8_indexOfSupplementary 14 = .ok (.invokestatic 161, 3) := dk_184 0 161 (dk_at dksJ8_indexOfSupplementary_0 14 rfl rfl)
theorem dJ8_indexOfSupplementary_17 : decode cJ8_indexOfSupplementary 17 = .ok (.istore 5, 2) := dk_54 5 (dk_at dksJ8_indexOfSupplementary_0 17 rfl rfl)
theorem dJ8_indexOfSupplementary_19 : decode cJ8_indexOfSupplementary 19 = .ok (.iload_n 2, 1) := dk_28 (dk_at dksJ8_indexOfSupplementary_0 19 rfl rfl)
theorem dJ8_indexOfSupplementary_20 : decode cJ8_indexOfSupplementary 20 = .ok (.iload_n 3, 1) := dk_29 (dk_at dksJ8_indexOfSupplementary_0 20 rfl rfl)
theorem dJ8_indexOfSupplementary_21 : decode cJ8_indexOfSupplementary 21 = .ok (.aload_n 0, 1) := dk_42 (dk_at dksJ8_indexOfSupplementary_0 21 rfl rfl)
theorem dJ8_indexOfSupplementary_22 : decode cJ8_indexOfSupplementary 22 = .ok (.invokestatic 96, 3) := dk_184 0 96 (dk_at dksJ8_indexOfSupplementary_1 0 rfl rfl)
theorem dJ8_indexOfSupplementary_25 : decode cJ8_indexOfSupplementary 25 = .ok (.iload_n 2, 1) := dk_28 (dk_at dksJ8_indexOfSupplementary_1 3 rfl rfl)
theorem dJ8_indexOfSupplementary_26 : decode cJ8_indexOfSupplementary 26 = .ok (.istore 6, 2) := dk_54 6 (dk_at dksJ8_indexOfSupplementary_1 4 rfl rfl)
theorem dJ8_indexOfSupplementary_28 : decode cJ8_indexOfSupplementary 28 = .ok (.iload 6, 2) := dk_21 6 (dk_at dksJ8_indexOfSupplementary_1 6 rfl rfl)
theorem dJ8_indexOfSupplementary_30 : decode cJ8_indexOfSupplementary 30 = .ok (.iload_n 3, 1) := dk_29 (dk_at dksJ8_indexOfSupplementary_1 8 rfl rfl)
theorem dJ8_indexOfSupplementary_31 : decode cJ8_indexOfSupplementary 31 = .ok (.iconst 1, 1) := dk_4 (dk_at dksJ8_indexOfSupplementary_1 9 rfl rfl)
theorem dJ8_indexOfSupplementary_32 : decode cJ8_indexOfSupplementary 32 = .ok (.isub, 1) := dk_100 (dk_at dksJ8_indexOfSupplementary_1 10 rfl rfl)
theorem dJ8_indexOfSupplementary_33 : decode cJ8_indexOfSupplementary 33 = .ok (.if_icmp .ge 36, 3) := dk_162 0 36 (dk_at dksJ8_indexOfSupplementary_1 11 rfl rfl)
theorem dJ8_indexOfSupplementary_36 : decode cJ8_indexOfSupplementary 36 = .ok (.aload_n 0, 1) := dk_42 (dk_at dksJ8_indexOfSupplementary_1 14 rfl rfl)
theorem dJ8_indexOfSupplementary_37 : decode cJ8_indexOfSupplementary 37 = .ok (.iload 6, 2) := dk_21 6 (dk_at dksJ8_indexOfSupplementary_1 15 rfl rfl)
theorem dJ8_indexOfSupplementary_39 : decode cJ8_indexOfSupplementary 39 = .ok (.invokestatic 71, 3) := dk_184 0 71 (dk_at dksJ8_indexOfSupplementary_1 17 rfl rfl)
theorem dJ8_indexOfSupplementary_42 : decode cJ8_indexOfSupplementary 42 = .ok (.iload 4, 2) := dk_21 4 (dk_at dksJ8_indexOfSupplementary_1 20 rfl rfl)
theorem dJ8_indexOfSupplementary_44 : decode cJ8_indexOfSupplementary 44 = .ok (.if_icmp .ne 19, 3) := dk_160 0 19 (dk_at dksJ8_indexOfSupplementary_2 0 rfl rfl)
theorem dJ8_indexOfSupplementary_47 : decode cJ8_indexOfSupplementary 47 = .ok (.aload_n 0, 1) := dk_42 (dk_at dksJ8_indexOfSupplementary_2 3 rfl rfl)
theorem dJ8_indexOfSupplementary_48 : decode cJ8_indexOfSupplementary 48 = .ok (.iload 6, 2) := dk_21 6 (dk_at dksJ8_indexOfSupplementary_2 4 rfl rfl)
theorem dJ8_indexOfSupplementary_50 : decode cJ8_indexOfSupplementary 50 = .ok (.iconst 1, 1) := dk_4 (dk_at dksJ8_indexOfSupplementary_2 6 rfl rfl)
theorem dJ8_indexOfSupplementary_51 : decode cJ8_indexOfSupplementary 51 = .ok (.iadd, 1) := dk_96 (dk_at dksJ8_indexOfSupplementary_2 7 rfl rfl)
theorem dJ8_indexOfSupplementary_52 : decode cJ8_indexOfSupplementary 52 = .ok (.invokestatic 71, 3) := dk_184 0 71 (dk_at dksJ8_indexOfSupplementary_2 8 rfl rfl)
theorem dJ8_indexOfSupplementary_55 : decode cJ8_indexOfSupplementary 55 = .ok (.iload 5, 2) := dk_21 5 (dk_at dksJ8_indexOfSupplementary_2 11 rfl rfl)
theorem dJ8_indexOfSupplementary_57 : decode cJ8_indexOfSupplementary 57 = .ok (.if_icmp .ne 6, 3) := dk_160 0 6 (dk_at dksJ8_indexOfSupplementary_2 13 rfl rfl)
theorem dJ8_indexOfSupplementary_60 : decode cJ8_indexOfSupplementary 60 = .ok (.iload 6, 2) := dk_21 6 (dk_at dksJ8_indexOfSupplementary_2 16 rfl rfl)
theorem dJ8_indexOfSupplementary_62 : decode cJ8_indexOfSupplementary 62 = .ok (.ireturn, 1) := dk_172 (dk_at dksJ8_indexOfSupplementary_2 18 rfl rfl)
theorem dJ8_indexOfSupplementary_63 : decode cJ8_indexOfSupplementary 63 = .ok (.iinc 6 1, 3) := dk_132 6 1 (dk_at dksJ8_indexOfSupplementary_2 19 rfl rfl)
theorem dJ8_indexOfSupplementary_66 : decode cJ8_indexOfSupplementary 66 = .ok (.goto (-38), 3) := dk_167 255 218 (dk_at dksJ8_indexOfSupplementary_3 0 rfl rfl)
theorem dJ8_indexOfSupplementary_69 : decode cJ8_indexOfSupplementary 69 = .ok (.iconst (-1), 1) := dk_2 (dk_at dksJ8_indexOfSupplementary_3 3 rfl rfl)
theorem dJ8_indexOfSupplementary_70 : decode cJ8_indexOfSupplementary 70 = .ok (.ireturn, 1) := dk_172 (dk_at dksJ8_indexOfSupplementary_3 4 rfl rfl)
abbrev cJ8_charAt : ByteArray := prog_43_method_83_code
def yJ8_charAt : MethodName := ⟨RJ8, "charAt", "([BI)C"⟩
def dkwJ8_charAt_0 : List UInt8 := [27, 42, 184, 0, 67, 42, 27, 184, 0, 71, 172]
abbrev dktJ8_charAt_0 : List UInt8 := dkwJ8_charAt_0 ++ []
theorem dksJ8_charAt_0 : cJ8_charAt.data.toList.drop 0 = dktJ8_charAt_0 := by decide +kernel
theorem dJ8_charAt_0 : decode cJ8_charAt 0 = .ok (.iload_n 1, 1) := dk_27 (dk_at dksJ8_charAt_0 0 rfl rfl)
theorem dJ8_charAt_1 : decode cJ8_charAt 1 = .ok (.aload_n 0, 1) := dk_42 (dk_at dksJ8_charAt_0 1 rfl rfl)
theorem dJ8_charAt_2 : decode cJ8_charAt 2 = .ok (.invokestatic 67, 3) := dk_184 0 67 (dk_at dksJ8_charAt_0 2 rfl rfl)
theorem dJ8_charAt_5 : decode cJ8_charAt 5 = .ok (.aload_n 0, 1) := dk_42 (dk_at dksJ8_charAt_0 5 rfl rfl)
theorem dJ8_charAt_6 : decode cJ8_charAt 6 = .ok (.iload_n 1, 1) := dk_27 (dk_at dksJ8_charAt_0 6 rfl rfl)
theorem dJ8_charAt_7 : decode cJ8_charAt 7 = .ok (.invokestatic 71, 3) := dk_184 0 71 (dk_at dksJ8_charAt_0 7 rfl rfl)
theorem dJ8_charAt_10 : decode cJ8_charAt 10 = .ok (.ireturn, 1) := dk_172 (dk_at dksJ8_charAt_0 10 rfl rfl)
abbrev cJ8_fillNull : ByteArray := prog_43_method_70_code
def yJ8_fillNull : MethodName := ⟨RJ8, "fillNull", "([BII)V"⟩
def dkwJ8_fillNull_0 : List UInt8 := [42, 27, 4, 120, 28, 4, 120, 3, 184, 1, 124, 177]
abbrev dktJ8_fillNull_0 : List UInt8 := dkwJ8_fillNull_0 ++ []
theorem dksJ8_fillNull_0 : cJ8_fillNull.data.toList.drop 0 = dktJ8_fillNull_0 := by decide +kernel
theorem dJ8_fillNull_0 : decode cJ8_fillNull 0 = .ok (.aload_n 0, 1) := dk_42 (dk_at dksJ8_fillNull_0 0 rfl rfl)
theorem dJ8_fillNull_1 : decode cJ8_fillNull 1 = .ok (.iload_n 1, 1) := dk_27 (dk_at dksJ8_fillNull_0 1 rfl rfl)
theorem dJ8_fillNull_2 : decode cJ8_fillNull 2 = .ok (.iconst 1, 1) := dk_4 (dk_at dksJ8_fillNull_0 2 rfl rfl)
theorem dJ8_fillNull_3 : decode cJ8_fillNull 3 = .ok (.ishl, 1) := dk_120 (dk_at dksJ8_fillNull_0 3 rfl rfl)
theorem dJ8_fillNull_4 : decode cJ8_fillNull 4 = .ok (.iload_n 2, 1) := dk_28 (dk_at dksJ8_fillNull_0 4 rfl rfl)
theorem dJ8_fillNull_5 : decode cJ8_fillNull 5 = .ok (.iconst 1, 1) := dk_4 (dk_at dksJ8_fillNull_0 5 rfl rfl)
theorem dJ8_fillNull_6 : decode cJ8_fillNull 6 = .ok (.ishl, 1) := dk_120 (dk_at dksJ8_fillNull_0 6 rfl rfl)
theorem dJ8_fillNull_7 : decode cJ8_fillNull 7 = .ok (.iconst 0, 1) := dk_3 (dk_at dksJ8_fillNull_0 7 rfl rfl)
theorem dJ8_fillNull_8 : decode cJ8_fillNull 8 = .ok (.invokestatic 380, 3) := dk_184 1 124 (dk_at dksJ8_fillNull_0 8 rfl rfl)
theorem dJ8_fillNull_11 : decode cJ8_fillNull 11 = .ok (.return_, 1) := dk_177 (dk_at dksJ8_fillNull_0 11 rfl rfl)
