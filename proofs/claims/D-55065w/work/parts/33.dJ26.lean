/-! code and decode rows of J26 (claim/names) -/
set_option maxRecDepth 100000
abbrev cJ26_checkIndex : ByteArray := prog_68_method_17_code
def yJ26_checkIndex : MethodName := ⟨RJ26, "checkIndex", "(II)I"⟩
def dkwJ26_checkIndex_0 : List UInt8 := [26, 27, 1, 184, 0, 105, 172]
abbrev dktJ26_checkIndex_0 : List UInt8 := dkwJ26_checkIndex_0 ++ []
theorem dksJ26_checkIndex_0 : cJ26_checkIndex.data.toList.drop 0 = dktJ26_checkIndex_0 := by decide +kernel
theorem dJ26_checkIndex_0 : decode cJ26_checkIndex 0 = .ok (.iload_n 0, 1) := dk_26 (dk_at dksJ26_checkIndex_0 0 rfl rfl)
theorem dJ26_checkIndex_1 : decode cJ26_checkIndex 1 = .ok (.iload_n 1, 1) := dk_27 (dk_at dksJ26_checkIndex_0 1 rfl rfl)
theorem dJ26_checkIndex_2 : decode cJ26_checkIndex 2 = .ok (.aconst_null, 1) := dk_1 (dk_at dksJ26_checkIndex_0 2 rfl rfl)
theorem dJ26_checkIndex_3 : decode cJ26_checkIndex 3 = .ok (.invokestatic 105, 3) := dk_184 0 105 (dk_at dksJ26_checkIndex_0 3 rfl rfl)
theorem dJ26_checkIndex_6 : decode cJ26_checkIndex 6 = .ok (.ireturn, 1) := dk_172 (dk_at dksJ26_checkIndex_0 6 rfl rfl)
abbrev cJ26_requireNonNull : ByteArray := prog_68_method_10_code
def yJ26_requireNonNull : MethodName := ⟨RJ26, "requireNonNull", "(Ljava/lang/Object;)Ljava/lang/Object;"⟩
def dkwJ26_requireNonNull_0 : List UInt8 := [42, 199, 0, 11, 187, 0, 84, 89, 183, 0, 86, 191, 42, 176]
abbrev dktJ26_requireNonNull_0 : List UInt8 := dkwJ26_requireNonNull_0 ++ []
theorem dksJ26_requireNonNull_0 : cJ26_requireNonNull.data.toList.drop 0 = dktJ26_requireNonNull_0 := by decide +kernel
theorem dJ26_requireNonNull_0 : decode cJ26_requireNonNull 0 = .ok (.aload_n 0, 1) := dk_42 (dk_at dksJ26_requireNonNull_0 0 rfl rfl)
theorem dJ26_requireNonNull_1 : decode cJ26_requireNonNull 1 = .ok (.ifnonnull 11, 3) := dk_199 0 11 (dk_at dksJ26_requireNonNull_0 1 rfl rfl)
theorem dJ26_requireNonNull_4 : decode cJ26_requireNonNull 4 = .ok (.new 84, 3) := dk_187 0 84 (dk_at dksJ26_requireNonNull_0 4 rfl rfl)
theorem dJ26_requireNonNull_7 : decode cJ26_requireNonNull 7 = .ok (.dup, 1) := dk_89 (dk_at dksJ26_requireNonNull_0 7 rfl rfl)
theorem dJ26_requireNonNull_8 : decode cJ26_requireNonNull 8 = .ok (.invokespecial 86, 3) := dk_183 0 86 (dk_at dksJ26_requireNonNull_0 8 rfl rfl)
theorem dJ26_requireNonNull_11 : decode cJ26_requireNonNull 11 = .ok (.athrow, 1) := dk_191 (dk_at dksJ26_requireNonNull_0 11 rfl rfl)
theorem dJ26_requireNonNull_12 : decode cJ26_requireNonNull 12 = .ok (.aload_n 0, 1) := dk_42 (dk_at dksJ26_requireNonNull_0 12 rfl rfl)
theorem dJ26_requireNonNull_13 : decode cJ26_requireNonNull 13 = .ok (.areturn, 1) := dk_176 (dk_at dksJ26_requireNonNull_0 13 rfl rfl)
abbrev cJ26_toString : ByteArray := prog_68_method_7_code
def yJ26_toString : MethodName := ⟨RJ26, "toString", "(Ljava/lang/Object;Ljava/lang/String;)Ljava/lang/String;"⟩
def dkwJ26_toString_0 : List UInt8 := [42, 198, 0, 10, 42, 182, 0, 37, 167, 0, 4, 43, 176]
abbrev dktJ26_toString_0 : List UInt8 := dkwJ26_toString_0 ++ []
theorem dksJ26_toString_0 : cJ26_toString.data.toList.drop 0 = dktJ26_toString_0 := by decide +kernel
theorem dJ26_toString_0 : decode cJ26_toString 0 = .ok (.aload_n 0, 1) := dk_42 (dk_at dksJ26_toString_0 0 rfl rfl)
theorem dJ26_toString_1 : decode cJ26_toString 1 = .ok (.ifnull 10, 3) := dk_198 0 10 (dk_at dksJ26_toString_0 1 rfl rfl)
theorem dJ26_toString_4 : decode cJ26_toString 4 = .ok (.aload_n 0, 1) := dk_42 (dk_at dksJ26_toString_0 4 rfl rfl)
theorem dJ26_toString_5 : decode cJ26_toString 5 = .ok (.invokevirtual 37, 3) := dk_182 0 37 (dk_at dksJ26_toString_0 5 rfl rfl)
theorem dJ26_toString_8 : decode cJ26_toString 8 = .ok (.goto 4, 3) := dk_167 0 4 (dk_at dksJ26_toString_0 8 rfl rfl)
theorem dJ26_toString_11 : decode cJ26_toString 11 = .ok (.aload_n 1, 1) := dk_43 (dk_at dksJ26_toString_0 11 rfl rfl)
theorem dJ26_toString_12 : decode cJ26_toString 12 = .ok (.areturn, 1) := dk_176 (dk_at dksJ26_toString_0 12 rfl rfl)
