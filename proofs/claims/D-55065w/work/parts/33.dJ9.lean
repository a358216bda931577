/-! code and decode rows of J9 (claim/names) -/
set_option maxRecDepth 100000
abbrev cJ9_init : ByteArray := prog_46_method_2_code
def yJ9_init : MethodName := ⟨RJ9, "<init>", "(Ljava/lang/String;)V"⟩
def dkwJ9_init_1 : List UInt8 := [182, 0, 27, 87, 42, 43, 181, 0, 31, 177]
abbrev dktJ9_init_1 : List UInt8 := dkwJ9_init_1 ++ []
def dkwJ9_init_0 : List UInt8 := [42, 183, 0, 1, 42, 42, 181, 0, 7, 42, 178, 0, 13, 181, 0, 17, 42, 178, 0, 20, 181, 0, 24, 42]
abbrev dktJ9_init_0 : List UInt8 := dkwJ9_init_0 ++ dktJ9_init_1
theorem dksJ9_init_0 : cJ9_init.data.toList.drop 0 = dktJ9_init_0 := by decide +kernel
theorem dksJ9_init_1 : cJ9_init.data.toList.drop 24 = dktJ9_init_1 := dk_seg dksJ9_init_0 24 rfl rfl
theorem dJ9_init_0 : decode cJ9_init 0 = .ok (.aload_n 0, 1) := dk_42 (dk_at dksJ9_init_0 0 rfl rfl)
theorem dJ9_init_1 : decode cJ9_init 1 = .ok (.invokespecial 1, 3) := dk_183 0 1 (dk_at dksJ9_init_0 1 rfl rfl)
theorem dJ9_init_4 : decode cJ9_init 4 = .ok (.aload_n 0, 1) := dk_42 (dk_at dksJ9_init_0 4 rfl rfl)
theorem dJ9_init_5 : decode cJ9_init 5 = .ok (.aload_n 0, 1) := dk_42 (dk_at dksJ9_init_0 5 rfl rfl)
theorem dJ9_init_6 : decode cJ9_init 6 = .ok (.putfield 7, 3) := dk_181 0 7 (dk_at dksJ9_init_0 6 rfl rfl)
theorem dJ9_init_9 : decode cJ9_init 9 = .ok (.aload_n 0, 1) := dk_42 (dk_at dksJ9_init_0 9 rfl rfl)
theorem dJ9_init_10 : decode cJ9_init 10 = .ok (.getstatic 13, 3) := dk_178 0 13 (dk_at dksJ9_init_0 10 rfl rfl)
theorem dJ9_init_13 : decode cJ9_init 13 = .ok (.putfield 17, 3) := dk_181 0 17 (dk_at dksJ9_init_0 13 rfl rfl)
theorem dJ9_init_16 : decode cJ9_init 16 = .ok (.aload_n 0, 1) := dk_42 (dk_at dksJ9_init_0 16 rfl rfl)
theorem dJ9_init_17 : decode cJ9_init 17 = .ok (.getstatic 20, 3) := dk_178 0 20 (dk_at dksJ9_init_0 17 rfl rfl)
theorem dJ9_init_20 : decode cJ9_init 20 = .ok (.putfield 24, 3) := dk_181 0 24 (dk_at dksJ9_init_0 20 rfl rfl)
theorem dJ9_init_23 : decode cJ9_init 23 = .ok (.aload_n 0, 1) := dk_42 (dk_at dksJ9_init_0 23 rfl rfl)
theorem dJ9_init_24 : decode cJ9_init 24 = .ok (.invokevirtual 27, 3) := dk_182 0 27 (dk_at dksJ9_init_1 0 rfl rfl)
theorem dJ9_init_27 : decode cJ9_init 27 = .ok (.pop, 1) := dk_87 (dk_at dksJ9_init_1 3 rfl rfl)
theorem dJ9_init_28 : decode cJ9_init 28 = .ok (.aload_n 0, 1) := dk_42 (dk_at dksJ9_init_1 4 rfl rfl)
theorem dJ9_init_29 : decode cJ9_init 29 = .ok (.aload_n 1, 1) := dk_43 (dk_at dksJ9_init_1 5 rfl rfl)
theorem dJ9_init_30 : decode cJ9_init 30 = .ok (.putfield 31, 3) := dk_181 0 31 (dk_at dksJ9_init_1 6 rfl rfl)
theorem dJ9_init_33 : decode cJ9_init 33 = .ok (.return_, 1) := dk_177 (dk_at dksJ9_init_1 9 rfl rfl)
abbrev cJ9_init_2 : ByteArray := prog_46_method_1_code
def yJ9_init_2 : MethodName := ⟨RJ9, "<init>", "()V"⟩
def dkwJ9_init_2_1 : List UInt8 := [182, 0, 27, 87, 177]
abbrev dktJ9_init_2_1 : List UInt8 := dkwJ9_init_2_1 ++ []
def dkwJ9_init_2_0 : List UInt8 := [42, 183, 0, 1, 42, 42, 181, 0, 7, 42, 178, 0, 13, 181, 0, 17, 42, 178, 0, 20, 181, 0, 24, 42]
abbrev dktJ9_init_2_0 : List UInt8 := dkwJ9_init_2_0 ++ dktJ9_init_2_1
theorem dksJ9_init_2_0 : cJ9_init_2.data.toList.drop 0 = dktJ9_init_2_0 := by decide +kernel
theorem dksJ9_init_2_1 : cJ9_init_2.data.toList.drop 24 = dktJ9_init_2_1 := dk_seg dksJ9_init_2_0 24 rfl rfl
theorem dJ9_init_2_0 : decode cJ9_init_2 0 = .ok (.aload_n 0, 1) := dk_42 (dk_at dksJ9_init_2_0 0 rfl rfl)
theorem dJ9_init_2_1 : decode cJ9_init_2 1 = .ok (.invokespecial 1, 3) := dk_183 0 1 (dk_at dksJ9_init_2_0 1 rfl rfl)
theorem dJ9_init_2_4 : decode cJ9_init_2 4 = .ok (.aload_n 0, 1) := dk_42 (dk_at dksJ9_init_2_0 4 rfl rfl)
theorem dJ9_init_2_5 : decode cJ9_init_2 5 = .ok (.aload_n 0, 1) := dk_42 (dk_at dksJ9_init_2_0 5 rfl rfl)
theorem dJ9_init_2_6 : decode cJ9_init_2 6 = .ok (.putfield 7, 3) := dk_181 0 7 (dk_at dksJ9_init_2_0 6 rfl rfl)
theorem dJ9_init_2_9 : decode cJ9_init_2 9 = .ok (.aload_n 0, 1) := dk_42 (dk_at dksJ9_init_2_0 9 rfl rfl)
theorem dJ9_init_2_10 : decode cJ9_init_2 10 = .ok (.getstatic 13, 3) := dk_178 0 13 (dk_at dksJ9_init_2_0 10 rfl rfl)
theorem dJ9_init_2_13 : decode cJ9_init_2 13 = .ok (.putfield 17, 3) := dk_181 0 17 (dk_at dksJ9_init_2_0 13 rfl rfl)
theorem dJ9_init_2_16 : decode cJ9_init_2 16 = .ok (.aload_n 0, 1) := dk_42 (dk_at dksJ9_init_2_0 16 rfl rfl)
theorem dJ9_init_2_17 : decode cJ9_init_2 17 = .ok (.getstatic 20, 3) := dk_178 0 20 (dk_at dksJ9_init_2_0 17 rfl rfl)
theorem dJ9_init_2_20 : decode cJ9_init_2 20 = .ok (.putfield 24, 3) := dk_181 0 24 (dk_at dksJ9_init_2_0 20 rfl rfl)
theorem dJ9_init_2_23 : decode cJ9_init_2 23 = .ok (.aload_n 0, 1) := dk_42 (dk_at dksJ9_init_2_0 23 rfl rfl)
theorem dJ9_init_2_24 : decode cJ9_init_2 24 = .ok (.invokevirtual 27, 3) := dk_182 0 27 (dk_at dksJ9_init_2_1 0 rfl rfl)
theorem dJ9_init_2_27 : decode cJ9_init_2 27 = .ok (.pop, 1) := dk_87 (dk_at dksJ9_init_2_1 3 rfl rfl)
theorem dJ9_init_2_28 : decode cJ9_init_2 28 = .ok (.return_, 1) := dk_177 (dk_at dksJ9_init_2_1 4 rfl rfl)
abbrev cJ9_init_3 : ByteArray := prog_46_method_4_code
def yJ9_init_3 : MethodName := ⟨RJ9, "<init>", "(Ljava/lang/Throwable;)V"⟩
def dkwJ9_init_3_2 : List UInt8 := [181, 0, 7, 177]
abbrev dktJ9_init_3_2 : List UInt8 := dkwJ9_init_3_2 ++ []
def dkwJ9_init_3_1 : List UInt8 := [182, 0, 27, 87, 42, 43, 199, 0, 7, 1, 167, 0, 7, 43, 182, 0, 35, 181, 0, 31, 42, 43]
abbrev dktJ9_init_3_1 : List UInt8 := dkwJ9_init_3_1 ++ dktJ9_init_3_2
def dkwJ9_init_3_0 : List UInt8 := [42, 183, 0, 1, 42, 42, 181, 0, 7, 42, 178, 0, 13, 181, 0, 17, 42, 178, 0, 20, 181, 0, 24, 42]
abbrev dktJ9_init_3_0 : List UInt8 := dkwJ9_init_3_0 ++ dktJ9_init_3_1
theorem dksJ9_init_3_0 : cJ9_init_3.data.toList.drop 0 = dktJ9_init_3_0 := by decide +kernel
theorem dksJ9_init_3_1 : cJ9_init_3.data.toList.drop 24 = dktJ9_init_3_1 := dk_seg dksJ9_init_3_0 24 rfl rfl
theorem dksJ9_init_3_2 : cJ9_init_3.data.toList.drop 46 = dktJ9_init_3_2 := dk_seg dksJ9_init_3_1 22 rfl rfl
theorem dJ9_init_3_0 : decode cJ9_init_3 0 = .ok (.aload_n 0, 1) := dk_42 (dk_at dksJ9_init_3_0 0 rfl rfl)
theorem dJ9_init_3_1 : decode cJ9_init_3 1 = .ok (.invokespecial 1, 3) := dk_183 0 1 (dk_at dksJ9_init_3_0 1 rfl rfl)
theorem dJ9_init_3_4 : decode cJ9_init_3 4 = .ok (.aload_n 0, 1) := dk_42 (dk_at dksJ9_init_3_0 4 rfl rfl)
theorem dJ9_init_3_5 : decode cJ9_init_3 5 = .ok (.aload_n 0, 1) := dk_42 (dk_at dksJ9_init_3_0 5 rfl rfl)
theorem dJ9_init_3_6 : decode cJ9_init_3 6 = .ok (.putfield 7, 3) := dk_181 0 7 (dk_at dksJ9_init_3_0 6 rfl rfl)
theorem dJ9_init_3_9 : decode cJ9_init_3 9 = .ok (.aload_n 0, 1) := dk_42 (dk_at dksJ9_init_3_0 9 rfl rfl)
theorem dJ9_init_3_10 : decode cJ9_init_3 10 = .ok (.getstatic 13, 3) := dk_178 0 13 (dk_at dksJ9_init_3_0 10 rfl rfl)
theorem dJ9_init_3_13 : decode cJ9_init_3 13 = .ok (.putfield 17, 3) := dk_181 0 17 (dk_at dksJ9_init_3_0 13 rfl rfl)
theorem dJ9_init_3_16 : decode cJ9_init_3 16 = .ok (.aload_n 0, 1) := dk_42 (dk_at dksJ9_init_3_0 16 rfl rfl)
theorem dJ9_init_3_17 : decode cJ9_init_3 17 = .ok (.getstatic 20, 3) := dk_178 0 20 (dk_at dksJ9_init_3_0 17 rfl rfl)
theorem dJ9_init_3_20 : decode cJ9_init_3 20 = .ok (.putfield 24, 3) := dk_181 0 24 (dk_at dksJ9_init_3_0 20 rfl rfl)
theorem dJ9_init_3_23 : decode cJ9_init_3 23 = .ok (.aload_n 0, 1) := dk_42 (dk_at dksJ9_init_3_0 23 rfl rfl)
theorem dJ9_init_3_24 : decode cJ9_init_3 24 = .ok (.invokevirtual 27, 3) := dk_182 0 27 (dk_at dksJ9_init_3_1 0 rfl rfl)
theorem dJ9_init_3_27 : decode cJ9_init_3 27 = .ok (.pop, 1) := dk_87 (dk_at dksJ9_init_3_1 3 rfl rfl)
theorem dJ9_init_3_28 : decode cJ9_init_3 28 = .ok (.aload_n 0, 1) := dk_42 (dk_at dksJ9_init_3_1 4 rfl rfl)
theorem dJ9_init_3_29 : decode cJ9_init_3 29 = .ok (.aload_n 1, 1) := dk_43 (dk_at dksJ9_init_3_1 5 rfl rfl)
theorem dJ9_init_3_30 : decode cJ9_init_3 30 = .ok (.ifnonnull 7, 3) := dk_199 0 7 (dk_at dksJ9_init_3_1 6 rfl rfl)
theorem dJ9_init_3_33 : decode cJ9_init_3 33 = .ok (.aconst_null, 1) := dk_1 (dk_at dksJ9_init_3_1 9 rfl rfl)
theorem dJ9_init_3_34 : decode cJ9_init_3 34 = .ok (.goto 7, 3) := dk_167 0 7 (dk_at dksJ9_init_3_1 10 rfl rfl)
theorem dJ9_init_3_37 : decode cJ9_init_3 37 = .ok (.aload_n 1, 1) := dk_43 (dk_at dksJ9_init_3_1 13 rfl rfl)
theorem dJ9_init_3_38 : decode cJ9_init_3 38 = .ok (.invokevirtual 35, 3) := dk_182 0 35 (dk_at dksJ9_init_3_1 14 rfl rfl)
theorem dJ9_init_3_41 : decode cJ9_init_3 41 = .ok (.putfield 31, 3) := dk_181 0 31 (dk_at dksJ9_init_3_1 17 rfl rfl)
theorem dJ9_init_3_44 : decode cJ9_init_3 44 = .ok (.aload_n 0, 1) := dk_42 (dk_at dksJ9_init_3_1 20 rfl rfl)
theorem dJ9_init_3_45 : decode cJ9_init_3 45 = .ok (.aload_n 1, 1) := dk_43 (dk_at dksJ9_init_3_1 21 rfl rfl)
theorem dJ9_init_3_46 : decode cJ9_init_3 46 = .ok (.putfield 7, 3) := dk_181 0 7 (dk_at dksJ9_init_3_2 0 rfl rfl)
theorem dJ9_init_3_49 : decode cJ9_init_3 49 = .ok (.return_, 1) := dk_177 (dk_at dksJ9_init_3_2 3 rfl rfl)
abbrev cJ9_toString : ByteArray := prog_46_method_11_code
def yJ9_toString : MethodName := ⟨RJ9, "toString", "()Ljava/lang/String;"⟩
def dkwJ9_toString_1 : List UInt8 := [43, 182, 0, 49, 18, 81, 182, 0, 49, 44, 182, 0, 49, 182, 0, 60, 167, 0, 4, 43, 176]
abbrev dktJ9_toString_1 : List UInt8 := dkwJ9_toString_1 ++ []
def dkwJ9_toString_0 : List UInt8 := [42, 182, 0, 69, 182, 0, 73, 76, 42, 182, 0, 78, 77, 44, 198, 0, 29, 187, 0, 44, 89, 183, 0, 46]
abbrev dktJ9_toString_0 : List UInt8 := dkwJ9_toString_0 ++ dktJ9_toString_1
theorem dksJ9_toString_0 : cJ9_toString.data.toList.drop 0 = dktJ9_toString_0 := by decide +kernel
theorem dksJ9_toString_1 : cJ9_toString.data.toList.drop 24 = dktJ9_toString_1 := dk_seg dksJ9_toString_0 24 rfl rfl
theorem dJ9_toString_0 : decode cJ9_toString 0 = .ok (.aload_n 0, 1) := dk_42 (dk_at dksJ9_toString_0 0 rfl rfl)
theorem dJ9_toString_1 : decode cJ9_toString 1 = .ok (.invokevirtual 69, 3) := dk_182 0 69 (dk_at dksJ9_toString_0 1 rfl rfl)
theorem dJ9_toString_4 : decode cJ9_toString 4 = .ok (.invokevirtual 73, 3) := dk_182 0 73 (dk_at dksJ9_toString_0 4 rfl rfl)
theorem dJ9_toString_7 : decode cJ9_toString 7 = .ok (.astore_n 1, 1) := dk_76 (dk_at dksJ9_toString_0 7 rfl rfl)
theorem dJ9_toString_8 : decode cJ9_toString 8 = .ok (.aload_n 0, 1) := dk_42 (dk_at dksJ9_toString_0 8 rfl rfl)
theorem dJ9_toString_9 : decode cJ9_toString 9 = .ok (.invokevirtual 78, 3) := dk_182 0 78 (dk_at dksJ9_toString_0 9 rfl rfl)
theorem dJ9_toString_12 : decode cJ9_toString 12 = .ok (.astore_n 2, 1) := dk_77 (dk_at dksJ9_toString_0 12 rfl rfl)
theorem dJ9_toString_13 : decode cJ9_toString 13 = .ok (.aload_n 2, 1) := dk_44 (dk_at dksJ9_toString_0 13 rfl rfl)
theorem dJ9_toString_14 : decode cJ9_toString 14 = .ok (.ifnull 29, 3) := dk_198 0 29 (dk_at dksJ9_toString_0 14 rfl rfl)
theorem dJ9_toString_17 : decode cJ9_toString 17 = .ok (.new 44, 3) := dk_187 0 44 (dk_at dksJ9_toString_0 17 rfl rfl)
theorem dJ9_toString_20 : decode cJ9_toString 20 = .ok (.dup, 1) := dk_89 (dk_at dksJ9_toString_0 20 rfl rfl)
theorem dJ9_toString_21 : decode cJ9_toString 21 = .ok (.invokespecial 46, 3) := dk_183 0 46 (dk_at dksJ9_toString_0 21 rfl rfl)
theorem dJ9_toString_24 : decode cJ9_toString 24 = .ok (.aload_n 1, 1) := dk_43 (dk_at dksJ9_toString_1 0 rfl rfl)
theorem dJ9_toString_25 : decode cJ9_toString 25 = .ok (.invokevirtual 49, 3) := dk_182 0 49 (dk_at dksJ9_toString_1 1 rfl rfl)
theorem dJ9_toString_28 : decode cJ9_toString 28 = .ok (.ldc 81, 2) := dk_18 81 (dk_at dksJ9_toString_1 4 rfl rfl)
theorem dJ9_toString_30 : decode cJ9_toString 30 = .ok (.invokevirtual 49, 3) := dk_182 0 49 (dk_at dksJ9_toString_1 6 rfl rfl)
theorem dJ9_toString_33 : decode cJ9_toString 33 = .ok (.aload_n 2, 1) := dk_44 (dk_at dksJ9_toString_1 9 rfl rfl)
theorem dJ9_toString_34 : decode cJ9_toString 34 = .ok (.invokevirtual 49, 3) := dk_182 0 49 (dk_at dksJ9_toString_1 10 rfl rfl)
theorem dJ9_toString_37 : decode cJ9_toString 37 = .ok (.invokevirtual 60, 3) := dk_182 0 60 (dk_at dksJ9_toString_1 13 rfl rfl)
theorem dJ9_toString_40 : decode cJ9_toString 40 = .ok (.goto 4, 3) := dk_167 0 4 (dk_at dksJ9_toString_1 16 rfl rfl)
theorem dJ9_toString_43 : decode cJ9_toString 43 = .ok (.aload_n 1, 1) := dk_43 (dk_at dksJ9_toString_1 19 rfl rfl)
theorem dJ9_toString_44 : decode cJ9_toString 44 = .ok (.areturn, 1) := dk_176 (dk_at dksJ9_toString_1 20 rfl rfl)
abbrev cJ9_getLocalizedMessage : ByteArray := prog_46_method_7_code
def yJ9_getLocalizedMessage : MethodName := ⟨RJ9, "getLocalizedMessage", "()Ljava/lang/String;"⟩
theorem dJ9_getLocalizedMessage_0 : decode cJ9_getLocalizedMessage 0 = .ok (.aload_n 0, 1) := by decide +kernel
theorem dJ9_getLocalizedMessage_1 : decode cJ9_getLocalizedMessage 1 = .ok (.invokevirtual 39, 3) := by decide +kernel
theorem dJ9_getLocalizedMessage_4 : decode cJ9_getLocalizedMessage 4 = .ok (.areturn, 1) := by decide +kernel
abbrev cJ9_getMessage : ByteArray := prog_46_method_6_code
def yJ9_getMessage : MethodName := ⟨RJ9, "getMessage", "()Ljava/lang/String;"⟩
theorem dJ9_getMessage_0 : decode cJ9_getMessage 0 = .ok (.aload_n 0, 1) := by decide +kernel
theorem dJ9_getMessage_1 : decode cJ9_getMessage 1 = .ok (.getfield 31, 3) := by decide +kernel
theorem dJ9_getMessage_4 : decode cJ9_getMessage 4 = .ok (.areturn, 1) := by decide +kernel
abbrev cJ9_init_4 : ByteArray := prog_46_method_3_code
def yJ9_init_4 : MethodName := ⟨RJ9, "<init>", "(Ljava/lang/String;Ljava/lang/Throwable;)V"⟩
def dkwJ9_init_4_1 : List UInt8 := [182, 0, 27, 87, 42, 43, 181, 0, 31, 42, 44, 181, 0, 7, 177]
abbrev dktJ9_init_4_1 : List UInt8 := dkwJ9_init_4_1 ++ []
def dkwJ9_init_4_0 : List UInt8 := [42, 183, 0, 1, 42, 42, 181, 0, 7, 42, 178, 0, 13, 181, 0, 17, 42, 178, 0, 20, 181, 0, 24, 42]
abbrev dktJ9_init_4_0 : List UInt8 := dkwJ9_init_4_0 ++ dktJ9_init_4_1
theorem dksJ9_init_4_0 : cJ9_init_4.data.toList.drop 0 = dktJ9_init_4_0 := by decide +kernel
theorem dksJ9_init_4_1 : cJ9_init_4.data.toList.drop 24 = dktJ9_init_4_1 := dk_seg dksJ9_init_4_0 24 rfl rfl
theorem dJ9_init_4_0 : decode cJ9_init_4 0 = .ok (.aload_n 0, 1) := dk_42 (dk_at dksJ9_init_4_0 0 rfl rfl)
theorem dJ9_init_4_1 : decode cJ9_init_4 1 = .ok (.invokespecial 1, 3) := dk_183 0 1 (dk_at dksJ9_init_4_0 1 rfl rfl)
theorem dJ9_init_4_4 : decode cJ9_init_4 4 = .ok (.aload_n 0, 1) := dk_42 (dk_at dksJ9_init_4_0 4 rfl rfl)
theorem dJ9_init_4_5 : decode cJ9_init_4 5 = .ok (.aload_n 0, 1) := dk_42 (dk_at dksJ9_init_4_0 5 rfl rfl)
theorem dJ9_init_4_6 : decode cJ9_init_4 6 = .ok (.putfield 7, 3) := dk_181 0 7 (dk_at dksJ9_init_4_0 6 rfl rfl)
theorem dJ9_init_4_9 : decode cJ9_init_4 9 = .ok (.aload_n 0, 1) := dk_42 (dk_at dksJ9_init_4_0 9 rfl rfl)
theorem dJ9_init_4_10 : decode cJ9_init_4 10 = .ok (.getstatic 13, 3) := dk_178 0 13 (dk_at dksJ9_init_4_0 10 rfl rfl)
theorem dJ9_init_4_13 : decode cJ9_init_4 13 = .ok (.putfield 17, 3) := dk_181 0 17 (dk_at dksJ9_init_4_0 13 rfl rfl)
theorem dJ9_init_4_16 : decode cJ9_init_4 16 = .ok (.aload_n 0, 1) := dk_42 (dk_at dksJ9_init_4_0 16 rfl rfl)
theorem dJ9_init_4_17 : decode cJ9_init_4 17 = .ok (.getstatic 20, 3) := dk_178 0 20 (dk_at dksJ9_init_4_0 17 rfl rfl)
theorem dJ9_init_4_20 : decode cJ9_init_4 20 = .ok (.putfield 24, 3) := dk_181 0 24 (dk_at dksJ9_init_4_0 20 rfl rfl)
theorem dJ9_init_4_23 : decode cJ9_init_4 23 = .ok (.aload_n 0, 1) := dk_42 (dk_at dksJ9_init_4_0 23 rfl rfl)
theorem dJ9_init_4_24 : decode cJ9_init_4 24 = .ok (.invokevirtual 27, 3) := dk_182 0 27 (dk_at dksJ9_init_4_1 0 rfl rfl)
theorem dJ9_init_4_27 : decode cJ9_init_4 27 = .ok (.pop, 1) := dk_87 (dk_at dksJ9_init_4_1 3 rfl rfl)
theorem dJ9_init_4_28 : decode cJ9_init_4 28 = .ok (.aload_n 0, 1) := dk_42 (dk_at dksJ9_init_4_1 4 rfl rfl)
theorem dJ9_init_4_29 : decode cJ9_init_4 29 = .ok (.aload_n 1, 1) := dk_43 (dk_at dksJ9_init_4_1 5 rfl rfl)
theorem dJ9_init_4_30 : decode cJ9_init_4 30 = .ok (.putfield 31, 3) := dk_181 0 31 (dk_at dksJ9_init_4_1 6 rfl rfl)
theorem dJ9_init_4_33 : decode cJ9_init_4 33 = .ok (.aload_n 0, 1) := dk_42 (dk_at dksJ9_init_4_1 9 rfl rfl)
theorem dJ9_init_4_34 : decode cJ9_init_4 34 = .ok (.aload_n 2, 1) := dk_44 (dk_at dksJ9_init_4_1 10 rfl rfl)
theorem dJ9_init_4_35 : decode cJ9_init_4 35 = .ok (.putfield 7, 3) := dk_181 0 7 (dk_at dksJ9_init_4_1 11 rfl rfl)
theorem dJ9_init_4_38 : decode cJ9_init_4 38 = .ok (.return_, 1) := dk_177 (dk_at dksJ9_init_4_1 14 rfl rfl)
