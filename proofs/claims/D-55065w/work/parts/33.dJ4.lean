/-! code and decode rows of J4 (claim/names) -/
set_option maxRecDepth 100000
abbrev cJ4_init : ByteArray := prog_62_method_1_code
def yJ4_init : MethodName := ⟨RJ4, "<init>", "()V"⟩
def dkwJ4_init_0 : List UInt8 := [42, 183, 0, 1, 42, 3, 181, 0, 7, 177]
abbrev dktJ4_init_0 : List UInt8 := dkwJ4_init_0 ++ []
theorem dksJ4_init_0 : cJ4_init.data.toList.drop 0 = dktJ4_init_0 := by decide +kernel
theorem dJ4_init_0 : decode cJ4_init 0 = .ok (.aload_n 0, 1) := dk_42 (dk_at dksJ4_init_0 0 rfl rfl)
theorem dJ4_init_1 : decode cJ4_init 1 = .ok (.invokespecial 1, 3) := dk_183 0 1 (dk_at dksJ4_init_0 1 rfl rfl)
theorem dJ4_init_4 : decode cJ4_init 4 = .ok (.aload_n 0, 1) := dk_42 (dk_at dksJ4_init_0 4 rfl rfl)
theorem dJ4_init_5 : decode cJ4_init 5 = .ok (.iconst 0, 1) := dk_3 (dk_at dksJ4_init_0 5 rfl rfl)
theorem dJ4_init_6 : decode cJ4_init 6 = .ok (.putfield 7, 3) := dk_181 0 7 (dk_at dksJ4_init_0 6 rfl rfl)
theorem dJ4_init_9 : decode cJ4_init 9 = .ok (.return_, 1) := dk_177 (dk_at dksJ4_init_0 9 rfl rfl)
abbrev cJ4_listIterator : ByteArray := prog_62_method_49_code
def yJ4_listIterator : MethodName := ⟨RJ4, "listIterator", "(I)Ljava/util/ListIterator;"⟩
def dkwJ4_listIterator_0 : List UInt8 := [42, 27, 182, 0, 76, 187, 0, 150, 89, 42, 27, 183, 0, 152, 176]
abbrev dktJ4_listIterator_0 : List UInt8 := dkwJ4_listIterator_0 ++ []
theorem dksJ4_listIterator_0 : cJ4_listIterator.data.toList.drop 0 = dktJ4_listIterator_0 := by decide +kernel
theorem dJ4_listIterator_0 : decode cJ4_listIterator 0 = .ok (.aload_n 0, 1) := dk_42 (dk_at dksJ4_listIterator_0 0 rfl rfl)
theorem dJ4_listIterator_1 : decode cJ4_listIterator 1 = .ok (.iload_n 1, 1) := dk_27 (dk_at dksJ4_listIterator_0 1 rfl rfl)
theorem dJ4_listIterator_2 : decode cJ4_listIterator 2 = .ok (.invokevirtual 76, 3) := dk_182 0 76 (dk_at dksJ4_listIterator_0 2 rfl rfl)
theorem dJ4_listIterator_5 : decode cJ4_listIterator 5 = .ok (.new 150, 3) := dk_187 0 150 (dk_at dksJ4_listIterator_0 5 rfl rfl)
theorem dJ4_listIterator_8 : decode cJ4_listIterator 8 = .ok (.dup, 1) := dk_89 (dk_at dksJ4_listIterator_0 8 rfl rfl)
theorem dJ4_listIterator_9 : decode cJ4_listIterator 9 = .ok (.aload_n 0, 1) := dk_42 (dk_at dksJ4_listIterator_0 9 rfl rfl)
theorem dJ4_listIterator_10 : decode cJ4_listIterator 10 = .ok (.iload_n 1, 1) := dk_27 (dk_at dksJ4_listIterator_0 10 rfl rfl)
theorem dJ4_listIterator_11 : decode cJ4_listIterator 11 = .ok (.invokespecial 152, 3) := dk_183 0 152 (dk_at dksJ4_listIterator_0 11 rfl rfl)
theorem dJ4_listIterator_14 : decode cJ4_listIterator 14 = .ok (.areturn, 1) := dk_176 (dk_at dksJ4_listIterator_0 14 rfl rfl)
abbrev cJ4_checkPositionIndex : ByteArray := prog_62_method_30_code
def yJ4_checkPositionIndex : MethodName := ⟨RJ4, "checkPositionIndex", "(I)V"⟩
def dkwJ4_checkPositionIndex_0 : List UInt8 := [42, 27, 182, 0, 128, 154, 0, 16, 187, 0, 119, 89, 42, 27, 182, 0, 121, 183, 0, 125, 191, 177]
abbrev dktJ4_checkPositionIndex_0 : List UInt8 := dkwJ4_checkPositionIndex_0 ++ []
theorem dksJ4_checkPositionIndex_0 : cJ4_checkPositionIndex.data.toList.drop 0 = dktJ4_checkPositionIndex_0 := by decide +kernel
theorem dJ4_checkPositionIndex_0 : decode cJ4_checkPositionIndex 0 = .ok (.aload_n 0, 1) := dk_42 (dk_at dksJ4_checkPositionIndex_0 0 rfl rfl)
theorem dJ4_checkPositionIndex_1 : decode cJ4_checkPositionIndex 1 = .ok (.iload_n 1, 1) := dk_27 (dk_at dksJ4_checkPositionIndex_0 1 rfl rfl)
theorem dJ4_checkPositionIndex_2 : decode cJ4_checkPositionIndex 2 = .ok (.invokevirtual 128, 3) := dk_182 0 128 (dk_at dksJ4_checkPositionIndex_0 2 rfl rfl)
theorem dJ4_checkPositionIndex_5 : decode cJ4_checkPositionIndex 5 = .ok (.ifCond .ne 16, 3) := dk_154 0 16 (dk_at dksJ4_checkPositionIndex_0 5 rfl rfl)
theorem dJ4_checkPositionIndex_8 : decode cJ4_checkPositionIndex 8 = .ok (.new 119, 3) := dk_187 0 119 (dk_at dksJ4_checkPositionIndex_0 8 rfl rfl)
theorem dJ4_checkPositionIndex_11 : decode cJ4_checkPositionIndex 11 = .ok (.dup, 1) := dk_89 (dk_at dksJ4_checkPositionIndex_0 11 rfl rfl)
theorem dJ4_checkPositionIndex_12 : decode cJ4_checkPositionIndex 12 = .ok (.aload_n 0, 1) := dk_42 (dk_at dksJ4_checkPositionIndex_0 12 rfl rfl)
theorem dJ4_checkPositionIndex_13 : decode cJ4_checkPositionIndex 13 = .ok (.iload_n 1, 1) := dk_27 (dk_at dksJ4_checkPositionIndex_0 13 rfl rfl)
theorem dJ4_checkPositionIndex_14 : decode cJ4_checkPositionIndex 14 = .ok (.invokevirtual 121, 3) := dk_182 0 121 (dk_at dksJ4_checkPositionIndex_0 14 rfl rfl)
theorem dJ4_checkPositionIndex_17 : decode cJ4_checkPositionIndex 17 = .ok (.invokespecial 125, 3) := dk_183 0 125 (dk_at dksJ4_checkPositionIndex_0 17 rfl rfl)
theorem dJ4_checkPositionIndex_20 : decode cJ4_checkPositionIndex 20 = .ok (.athrow, 1) := dk_191 (dk_at dksJ4_checkPositionIndex_0 20 rfl rfl)
theorem dJ4_checkPositionIndex_21 : decode cJ4_checkPositionIndex 21 = .ok (.return_, 1) := dk_177 (dk_at dksJ4_checkPositionIndex_0 21 rfl rfl)
abbrev cJ4_isPositionIndex : ByteArray := prog_62_method_27_code
def yJ4_isPositionIndex : MethodName := ⟨RJ4, "isPositionIndex", "(I)Z"⟩
def dkwJ4_isPositionIndex_0 : List UInt8 := [27, 155, 0, 15, 27, 42, 180, 0, 7, 163, 0, 7, 4, 167, 0, 4, 3, 172]
abbrev dktJ4_isPositionIndex_0 : List UInt8 := dkwJ4_isPositionIndex_0 ++ []
theorem dksJ4_isPositionIndex_0 : cJ4_isPositionIndex.data.toList.drop 0 = dktJ4_isPositionIndex_0 := by decide +kernel
theorem dJ4_isPositionIndex_0 : decode cJ4_isPositionIndex 0 = .ok (.iload_n 1, 1) := dk_27 (dk_at dksJ4_isPositionIndex_0 0 rfl rfl)
theorem dJ4_isPositionIndex_1 : decode cJ4_isPositionIndex 1 = .ok (.ifCond .lt 15, 3) := dk_155 0 15 (dk_at dksJ4_isPositionIndex_0 1 rfl rfl)
theorem dJ4_isPositionIndex_4 : decode cJ4_isPositionIndex 4 = .ok (.iload_n 1, 1) := dk_27 (dk_at dksJ4_isPositionIndex_0 4 rfl rfl)
theorem dJ4_isPositionIndex_5 : decode cJ4_isPositionIndex 5 = .ok (.aload_n 0, 1) := dk_42 (dk_at dksJ4_isPositionIndex_0 5 rfl rfl)
theorem dJ4_isPositionIndex_6 : decode cJ4_isPositionIndex 6 = .ok (.getfield 7, 3) := dk_180 0 7 (dk_at dksJ4_isPositionIndex_0 6 rfl rfl)
theorem dJ4_isPositionIndex_9 : decode cJ4_isPositionIndex 9 = .ok (.if_icmp .gt 7, 3) := dk_163 0 7 (dk_at dksJ4_isPositionIndex_0 9 rfl rfl)
theorem dJ4_isPositionIndex_12 : decode cJ4_isPositionIndex 12 = .ok (.iconst 1, 1) := dk_4 (dk_at dksJ4_isPositionIndex_0 12 rfl rfl)
theorem dJ4_isPositionIndex_13 : decode cJ4_isPositionIndex 13 = .ok (.goto 4, 3) := dk_167 0 4 (dk_at dksJ4_isPositionIndex_0 13 rfl rfl)
theorem dJ4_isPositionIndex_16 : decode cJ4_isPositionIndex 16 = .ok (.iconst 0, 1) := dk_3 (dk_at dksJ4_isPositionIndex_0 16 rfl rfl)
theorem dJ4_isPositionIndex_17 : decode cJ4_isPositionIndex 17 = .ok (.ireturn, 1) := dk_172 (dk_at dksJ4_isPositionIndex_0 17 rfl rfl)
abbrev cJ4_outOfBoundsMsg : ByteArray := prog_62_method_28_code
def yJ4_outOfBoundsMsg : MethodName := ⟨RJ4, "outOfBoundsMsg", "(I)Ljava/lang/String;"⟩
def dkwJ4_outOfBoundsMsg_1 : List UInt8 := [180, 0, 7, 182, 0, 106, 182, 0, 111, 176]
abbrev dktJ4_outOfBoundsMsg_1 : List UInt8 := dkwJ4_outOfBoundsMsg_1 ++ []
def dkwJ4_outOfBoundsMsg_0 : List UInt8 := [187, 0, 97, 89, 183, 0, 99, 18, 100, 182, 0, 102, 27, 182, 0, 106, 18, 109, 182, 0, 102, 42]
abbrev dktJ4_outOfBoundsMsg_0 : List UInt8 := dkwJ4_outOfBoundsMsg_0 ++ dktJ4_outOfBoundsMsg_1
theorem dksJ4_outOfBoundsMsg_0 : cJ4_outOfBoundsMsg.data.toList.drop 0 = dktJ4_outOfBoundsMsg_0 := by decide +kernel
theorem dksJ4_outOfBoundsMsg_1 : cJ4_outOfBoundsMsg.data.toList.drop 22 = dktJ4_outOfBoundsMsg_1 := dk_seg dksJ4_outOfBoundsMsg_0 22 rfl rfl
theorem dJ4_outOfBoundsMsg_0 : decode cJ4_outOfBoundsMsg 0 = .ok (.new 97, 3) := dk_187 0 97 (dk_at dksJ4_outOfBoundsMsg_0 0 rfl rfl)
theorem dJ4_outOfBoundsMsg_3 : decode cJ4_outOfBoundsMsg 3 = .ok (.dup, 1) := dk_89 (dk_at dksJ4_outOfBoundsMsg_0 3 rfl rfl)
theorem dJ4_outOfBoundsMsg_4 : decode cJ4_outOfBoundsMsg 4 = .ok (.invokespecial 99, 3) := dk_183 0 99 (dk_at dksJ4_outOfBoundsMsg_0 4 rfl rfl)
theorem dJ4_outOfBoundsMsg_7 : decode cJ4_outOfBoundsMsg 7 = .ok (.ldc 100, 2) := dk_18 100 (dk_at dksJ4_outOfBoundsMsg_0 7 rfl rfl)
theorem dJ4_outOfBoundsMsg_9 : decode cJ4_outOfBoundsMsg 9 = .ok (.invokevirtual 102, 3) := dk_182 0 102 (dk_at dksJ4_outOfBoundsMsg_0 9 rfl rfl)
theorem dJ4_outOfBoundsMsg_12 : decode cJ4_outOfBoundsMsg 12 = .ok (.iload_n 1, 1) := dk_27 (dk_at dksJ4_outOfBoundsMsg_0 12 rfl rfl)
theorem dJ4_outOfBoundsMsg_13 : decode cJ4_outOfBoundsMsg 13 = .ok (.invokevirtual 106, 3) := dk_182 0 106 (dk_at dksJ4_outOfBoundsMsg_0 13 rfl rfl)
theorem dJ4_outOfBoundsMsg_16 : decode cJ4_outOfBoundsMsg 16 = .ok (.ldc 109, 2) := dk_18 109 (dk_at dksJ4_outOfBoundsMsg_0 16 rfl rfl)
theorem dJ4_outOfBoundsMsg_18 : decode cJ4_outOfBoundsMsg 18 = .ok (.invokevirtual 102, 3) := dk_182 0 102 (dk_at dksJ4_outOfBoundsMsg_0 18 rfl rfl)
theorem dJ4_outOfBoundsMsg_21 : decode cJ4_outOfBoundsMsg 21 = .ok (.aload_n 0, 1) := dk_42 (dk_at dksJ4_outOfBoundsMsg_0 21 rfl rfl)
theorem dJ4_outOfBoundsMsg_22 : decode cJ4_outOfBoundsMsg 22 = .ok (.getfield 7, 3) := dk_180 0 7 (dk_at dksJ4_outOfBoundsMsg_1 0 rfl rfl)
theorem dJ4_outOfBoundsMsg_25 : decode cJ4_outOfBoundsMsg 25 = .ok (.invokevirtual 106, 3) := dk_182 0 106 (dk_at dksJ4_outOfBoundsMsg_1 3 rfl rfl)
theorem dJ4_outOfBoundsMsg_28 : decode cJ4_outOfBoundsMsg 28 = .ok (.invokevirtual 111, 3) := dk_182 0 111 (dk_at dksJ4_outOfBoundsMsg_1 6 rfl rfl)
theorem dJ4_outOfBoundsMsg_31 : decode cJ4_outOfBoundsMsg 31 = .ok (.areturn, 1) := dk_176 (dk_at dksJ4_outOfBoundsMsg_1 9 rfl rfl)
abbrev cJ4_node : ByteArray := prog_62_method_31_code
def yJ4_node : MethodName := ⟨RJ4, "node", "(I)Ljava/util/LinkedList$Node;"⟩
def dkwJ4_node_2 : List UInt8 := [29, 27, 164, 0, 14, 44, 180, 0, 30, 77, 132, 3, 255, 167, 255, 243, 44, 176]
abbrev dktJ4_node_2 : List UInt8 := dkwJ4_node_2 ++ []
def dkwJ4_node_1 : List UInt8 := [180, 0, 36, 77, 132, 3, 1, 167, 255, 243, 44, 176, 42, 180, 0, 27, 77, 42, 180, 0, 7, 4, 100, 62]
abbrev dktJ4_node_1 : List UInt8 := dkwJ4_node_1 ++ dktJ4_node_2
def dkwJ4_node_0 : List UInt8 := [27, 42, 180, 0, 7, 4, 122, 162, 0, 28, 42, 180, 0, 18, 77, 3, 62, 29, 27, 162, 0, 14, 44]
abbrev dktJ4_node_0 : List UInt8 := dkwJ4_node_0 ++ dktJ4_node_1
theorem dksJ4_node_0 : cJ4_node.data.toList.drop 0 = dktJ4_node_0 := by decide +kernel
theorem dksJ4_node_1 : cJ4_node.data.toList.drop 23 = dktJ4_node_1 := dk_seg dksJ4_node_0 23 rfl rfl
theorem dksJ4_node_2 : cJ4_node.data.toList.drop 47 = dktJ4_node_2 := dk_seg dksJ4_node_1 24 rfl rfl
theorem dJ4_node_0 : decode cJ4_node 0 = .ok (.iload_n 1, 1) := dk_27 (dk_at dksJ4_node_0 0 rfl rfl)
theorem dJ4_node_1 : decode cJ4_node 1 = .ok (.aload_n 0, 1) := dk_42 (dk_at dksJ4_node_0 1 rfl rfl)
theorem dJ4_node_2 : decode cJ4_node 2 = .ok (.getfield 7, 3) := dk_180 0 7 (dk_at dksJ4_node_0 2 rfl rfl)
theorem dJ4_node_5 : decode cJ4_node 5 = .ok (.iconst 1, 1) := dk_4 (dk_at dksJ4_node_0 5 rfl rfl)
theorem dJ4_node_6 : decode cJ4_node 6 = .ok (.ishr, 1) := dk_122 (dk_at dksJ4_node_0 6 rfl rfl)
theorem dJ4_node_7 : decode cJ4_node 7 = .ok (.if_icmp .ge 28, 3) := dk_162 0 28 (dk_at dksJ4_node_0 7 rfl rfl)
theorem dJ4_node_10 : decode cJ4_node 10 = .ok (.aload_n 0, 1) := dk_42 (dk_at dksJ4_node_0 10 rfl rfl)
theorem dJ4_node_11 : decode cJ4_node 11 = .ok (.getfield 18, 3) := dk_180 0 18 (dk_at dksJ4_node_0 11 rfl rfl)
theorem dJ4_node_14 : decode cJ4_node 14 = .ok (.astore_n 2, 1) := dk_77 (dk_at dksJ4_node_0 14 rfl rfl)
theorem dJ4_node_15 : decode cJ4_node 15 = .ok (.iconst 0, 1) := dk_3 (dk_at dksJ4_node_0 15 rfl rfl)
theorem dJ4_node_16 : decode cJ4_node 16 = .ok (.istore_n 3, 1) := dk_62 (dk_at dksJ4_node_0 16 rfl rfl)
theorem dJ4_node_17 : decode cJ4_node 17 = .ok (.iload_n 3, 1) := dk_29 (dk_at dksJ4_node_0 17 rfl rfl)
theorem dJ4_node_18 : decode cJ4_node 18 = .ok (.iload_n 1, 1) := dk_27 (dk_at dksJ4_node_0 18 rfl rfl)
theorem dJ4_node_19 : decode cJ4_node 19 = .ok (.if_icmp .ge 14, 3) := dk_162 0 14 (dk_at dksJ4_node_0 19 rfl rfl)
theorem dJ4_node_22 : decode cJ4_node 22 = .ok (.aload_n 2, 1) := dk_44 (dk_at dksJ4_node_0 22 rfl rfl)
theorem dJ4_node_23 : decode cJ4_node 23 = .ok (.getfield 36, 3) := dk_180 0 36 (dk_at dksJ4_node_1 0 rfl rfl)
theorem dJ4_node_26 : decode cJ4_node 26 = .ok (.astore_n 2, 1) := dk_77 (dk_at dksJ4_node_1 3 rfl rfl)
theorem dJ4_node_27 : decode cJ4_node 27 = .ok (.iinc 3 1, 3) := dk_132 3 1 (dk_at dksJ4_node_1 4 rfl rfl)
theorem dJ4_node_30 : decode cJ4_node 30 = .ok (.goto (-13), 3) := dk_167 255 243 (dk_at dksJ4_node_1 7 rfl rfl)
theorem dJ4_node_33 : decode cJ4_node 33 = .ok (.aload_n 2, 1) := dk_44 (dk_at dksJ4_node_1 10 rfl rfl)
theorem dJ4_node_34 : decode cJ4_node 34 = .ok (.areturn, 1) := dk_176 (dk_at dksJ4_node_1 11 rfl rfl)
theorem dJ4_node_35 : decode cJ4_node 35 = .ok (.aload_n 0, 1) := dk_42 (dk_at dksJ4_node_1 12 rfl rfl)
theorem dJ4_node_36 : decode cJ4_node 36 = .ok (.getfield 27, 3) := dk_180 0 27 (dk_at dksJ4_node_1 13 rfl rfl)
theorem dJ4_node_39 : decode cJ4_node 39 = .ok (.astore_n 2, 1) := dk_77 (dk_at dksJ4_node_1 16 rfl rfl)
theorem dJ4_node_40 : decode cJ4_node 40 = .ok (.aload_n 0, 1) := dk_42 (dk_at dksJ4_node_1 17 rfl rfl)
theorem dJ4_node_41 : decode cJ4_node 41 = .ok (.getfield 7, 3) := dk_180 0 7 (dk_at dksJ4_node_1 18 rfl rfl)
theorem dJ4_node_44 : decode cJ4_node 44 = .ok (.iconst 1, 1) := dk_4 (dk_at dksJ4_node_1 21 rfl rfl)
theorem dJ4_node_45 : decode cJ4_node 45 = .ok (.isub, 1) := dk_100 (dk_at dksJ4_node_1 22 rfl rfl)
theorem dJ4_node_46 : decode cJ4_node 46 = .ok (.istore_n 3, 1) := dk_62 (dk_at dksJ4_node_1 23 rfl rfl)
theorem dJ4_node_47 : decode cJ4_node 47 = .ok (.iload_n 3, 1) := dk_29 (dk_at dksJ4_node_2 0 rfl rfl)
theorem dJ4_node_48 : decode cJ4_node 48 = .ok (.iload_n 1, 1) := dk_27 (dk_at dksJ4_node_2 1 rfl rfl)
theorem dJ4_node_49 : decode cJ4_node 49 = .ok (.if_icmp .le 14, 3) := dk_164 0 14 (dk_at dksJ4_node_2 2 rfl rfl)
theorem dJ4_node_52 : decode cJ4_node 52 = .ok (.aload_n 2, 1) := dk_44 (dk_at dksJ4_node_2 5 rfl rfl)
theorem dJ4_node_53 : decode cJ4_node 53 = .ok (.getfield 30, 3) := dk_180 0 30 (dk_at dksJ4_node_2 6 rfl rfl)
theorem dJ4_node_56 : decode cJ4_node 56 = .ok (.astore_n 2, 1) := dk_77 (dk_at dksJ4_node_2 9 rfl rfl)
theorem dJ4_node_57 : decode cJ4_node 57 = .ok (.iinc 3 (-1), 3) := dk_132 3 255 (dk_at dksJ4_node_2 10 rfl rfl)
theorem dJ4_node_60 : decode cJ4_node 60 = .ok (.goto (-13), 3) := dk_167 255 243 (dk_at dksJ4_node_2 13 rfl rfl)
theorem dJ4_node_63 : decode cJ4_node 63 = .ok (.aload_n 2, 1) := dk_44 (dk_at dksJ4_node_2 16 rfl rfl)
theorem dJ4_node_64 : decode cJ4_node 64 = .ok (.areturn, 1) := dk_176 (dk_at dksJ4_node_2 17 rfl rfl)
abbrev cJ4_size : ByteArray := prog_62_method_16_code
def yJ4_size : MethodName := ⟨RJ4, "size", "()I"⟩
theorem dJ4_size_0 : decode cJ4_size 0 = .ok (.aload_n 0, 1) := by decide +kernel
theorem dJ4_size_1 : decode cJ4_size 1 = .ok (.getfield 7, 3) := by decide +kernel
theorem dJ4_size_4 : decode cJ4_size 4 = .ok (.ireturn, 1) := by decide +kernel
abbrev cJ4_get : ByteArray := prog_62_method_22_code
def yJ4_get : MethodName := ⟨RJ4, "get", "(I)Ljava/lang/Object;"⟩
def dkwJ4_get_0 : List UInt8 := [42, 27, 182, 0, 90, 42, 27, 182, 0, 86, 180, 0, 39, 176]
abbrev dktJ4_get_0 : List UInt8 := dkwJ4_get_0 ++ []
theorem dksJ4_get_0 : cJ4_get.data.toList.drop 0 = dktJ4_get_0 := by decide +kernel
theorem dJ4_get_0 : decode cJ4_get 0 = .ok (.aload_n 0, 1) := dk_42 (dk_at dksJ4_get_0 0 rfl rfl)
theorem dJ4_get_1 : decode cJ4_get 1 = .ok (.iload_n 1, 1) := dk_27 (dk_at dksJ4_get_0 1 rfl rfl)
theorem dJ4_get_2 : decode cJ4_get 2 = .ok (.invokevirtual 90, 3) := dk_182 0 90 (dk_at dksJ4_get_0 2 rfl rfl)
theorem dJ4_get_5 : decode cJ4_get 5 = .ok (.aload_n 0, 1) := dk_42 (dk_at dksJ4_get_0 5 rfl rfl)
theorem dJ4_get_6 : decode cJ4_get 6 = .ok (.iload_n 1, 1) := dk_27 (dk_at dksJ4_get_0 6 rfl rfl)
theorem dJ4_get_7 : decode cJ4_get 7 = .ok (.invokevirtual 86, 3) := dk_182 0 86 (dk_at dksJ4_get_0 7 rfl rfl)
theorem dJ4_get_10 : decode cJ4_get 10 = .ok (.getfield 39, 3) := dk_180 0 39 (dk_at dksJ4_get_0 10 rfl rfl)
theorem dJ4_get_13 : decode cJ4_get 13 = .ok (.areturn, 1) := dk_176 (dk_at dksJ4_get_0 13 rfl rfl)
abbrev cJ4_checkElementIndex : ByteArray := prog_62_method_29_code
def yJ4_checkElementIndex : MethodName := ⟨RJ4, "checkElementIndex", "(I)V"⟩
def dkwJ4_checkElementIndex_0 : List UInt8 := [42, 27, 182, 0, 115, 154, 0, 16, 187, 0, 119, 89, 42, 27, 182, 0, 121, 183, 0, 125, 191, 177]
abbrev dktJ4_checkElementIndex_0 : List UInt8 := dkwJ4_checkElementIndex_0 ++ []
theorem dksJ4_checkElementIndex_0 : cJ4_checkElementIndex.data.toList.drop 0 = dktJ4_checkElementIndex_0 := by decide +kernel
theorem dJ4_checkElementIndex_0 : decode cJ4_checkElementIndex 0 = .ok (.aload_n 0, 1) := dk_42 (dk_at dksJ4_checkElementIndex_0 0 rfl rfl)
theorem dJ4_checkElementIndex_1 : decode cJ4_checkElementIndex 1 = .ok (.iload_n 1, 1) := dk_27 (dk_at dksJ4_checkElementIndex_0 1 rfl rfl)
theorem dJ4_checkElementIndex_2 : decode cJ4_checkElementIndex 2 = .ok (.invokevirtual 115, 3) := dk_182 0 115 (dk_at dksJ4_checkElementIndex_0 2 rfl rfl)
theorem dJ4_checkElementIndex_5 : decode cJ4_checkElementIndex 5 = .ok (.ifCond .ne 16, 3) := dk_154 0 16 (dk_at dksJ4_checkElementIndex_0 5 rfl rfl)
theorem dJ4_checkElementIndex_8 : decode cJ4_checkElementIndex 8 = .ok (.new 119, 3) := dk_187 0 119 (dk_at dksJ4_checkElementIndex_0 8 rfl rfl)
theorem dJ4_checkElementIndex_11 : decode cJ4_checkElementIndex 11 = .ok (.dup, 1) := dk_89 (dk_at dksJ4_checkElementIndex_0 11 rfl rfl)
theorem dJ4_checkElementIndex_12 : decode cJ4_checkElementIndex 12 = .ok (.aload_n 0, 1) := dk_42 (dk_at dksJ4_checkElementIndex_0 12 rfl rfl)
theorem dJ4_checkElementIndex_13 : decode cJ4_checkElementIndex 13 = .ok (.iload_n 1, 1) := dk_27 (dk_at dksJ4_checkElementIndex_0 13 rfl rfl)
theorem dJ4_checkElementIndex_14 : decode cJ4_checkElementIndex 14 = .ok (.invokevirtual 121, 3) := dk_182 0 121 (dk_at dksJ4_checkElementIndex_0 14 rfl rfl)
theorem dJ4_checkElementIndex_17 : decode cJ4_checkElementIndex 17 = .ok (.invokespecial 125, 3) := dk_183 0 125 (dk_at dksJ4_checkElementIndex_0 17 rfl rfl)
theorem dJ4_checkElementIndex_20 : decode cJ4_checkElementIndex 20 = .ok (.athrow, 1) := dk_191 (dk_at dksJ4_checkElementIndex_0 20 rfl rfl)
theorem dJ4_checkElementIndex_21 : decode cJ4_checkElementIndex 21 = .ok (.return_, 1) := dk_177 (dk_at dksJ4_checkElementIndex_0 21 rfl rfl)
abbrev cJ4_isElementIndex : ByteArray := prog_62_method_26_code
def yJ4_isElementIndex : MethodName := ⟨RJ4, "isElementIndex", "(I)Z"⟩
def dkwJ4_isElementIndex_0 : List UInt8 := [27, 155, 0, 15, 27, 42, 180, 0, 7, 162, 0, 7, 4, 167, 0, 4, 3, 172]
abbrev dktJ4_isElementIndex_0 : List UInt8 := dkwJ4_isElementIndex_0 ++ []
theorem dksJ4_isElementIndex_0 : cJ4_isElementIndex.data.toList.drop 0 = dktJ4_isElementIndex_0 := by decide +kernel
theorem dJ4_isElementIndex_0 : decode cJ4_isElementIndex 0 = .ok (.iload_n 1, 1) := dk_27 (dk_at dksJ4_isElementIndex_0 0 rfl rfl)
theorem dJ4_isElementIndex_1 : decode cJ4_isElementIndex 1 = .ok (.ifCond .lt 15, 3) := dk_155 0 15 (dk_at dksJ4_isElementIndex_0 1 rfl rfl)
theorem dJ4_isElementIndex_4 : decode cJ4_isElementIndex 4 = .ok (.iload_n 1, 1) := dk_27 (dk_at dksJ4_isElementIndex_0 4 rfl rfl)
theorem dJ4_isElementIndex_5 : decode cJ4_isElementIndex 5 = .ok (.aload_n 0, 1) := dk_42 (dk_at dksJ4_isElementIndex_0 5 rfl rfl)
theorem dJ4_isElementIndex_6 : decode cJ4_isElementIndex 6 = .ok (.getfield 7, 3) := dk_180 0 7 (dk_at dksJ4_isElementIndex_0 6 rfl rfl)
theorem dJ4_isElementIndex_9 : decode cJ4_isElementIndex 9 = .ok (.if_icmp .ge 7, 3) := dk_162 0 7 (dk_at dksJ4_isElementIndex_0 9 rfl rfl)
theorem dJ4_isElementIndex_12 : decode cJ4_isElementIndex 12 = .ok (.iconst 1, 1) := dk_4 (dk_at dksJ4_isElementIndex_0 12 rfl rfl)
theorem dJ4_isElementIndex_13 : decode cJ4_isElementIndex 13 = .ok (.goto 4, 3) := dk_167 0 4 (dk_at dksJ4_isElementIndex_0 13 rfl rfl)
theorem dJ4_isElementIndex_16 : decode cJ4_isElementIndex 16 = .ok (.iconst 0, 1) := dk_3 (dk_at dksJ4_isElementIndex_0 16 rfl rfl)
theorem dJ4_isElementIndex_17 : decode cJ4_isElementIndex 17 = .ok (.ireturn, 1) := dk_172 (dk_at dksJ4_isElementIndex_0 17 rfl rfl)
abbrev cJ4_add : ByteArray := prog_62_method_17_code
def yJ4_add : MethodName := ⟨RJ4, "add", "(Ljava/lang/Object;)Z"⟩
def dkwJ4_add_0 : List UInt8 := [42, 43, 182, 0, 57, 4, 172]
abbrev dktJ4_add_0 : List UInt8 := dkwJ4_add_0 ++ []
theorem dksJ4_add_0 : cJ4_add.data.toList.drop 0 = dktJ4_add_0 := by decide +kernel
theorem dJ4_add_0 : decode cJ4_add 0 = .ok (.aload_n 0, 1) := dk_42 (dk_at dksJ4_add_0 0 rfl rfl)
theorem dJ4_add_1 : decode cJ4_add 1 = .ok (.aload_n 1, 1) := dk_43 (dk_at dksJ4_add_0 1 rfl rfl)
theorem dJ4_add_2 : decode cJ4_add 2 = .ok (.invokevirtual 57, 3) := dk_182 0 57 (dk_at dksJ4_add_0 2 rfl rfl)
theorem dJ4_add_5 : decode cJ4_add 5 = .ok (.iconst 1, 1) := dk_4 (dk_at dksJ4_add_0 5 rfl rfl)
theorem dJ4_add_6 : decode cJ4_add 6 = .ok (.ireturn, 1) := dk_172 (dk_at dksJ4_add_0 6 rfl rfl)
abbrev cJ4_linkLast : ByteArray := prog_62_method_4_code
def yJ4_linkLast : MethodName := ⟨RJ4, "linkLast", "(Ljava/lang/Object;)V"⟩
def dkwJ4_linkLast_2 : List UInt8 := [181, 0, 7, 42, 89, 180, 0, 33, 4, 96, 181, 0, 33, 177]
abbrev dktJ4_linkLast_2 : List UInt8 := dkwJ4_linkLast_2 ++ []
def dkwJ4_linkLast_1 : List UInt8 := [199, 0, 11, 42, 45, 181, 0, 18, 167, 0, 8, 44, 45, 181, 0, 36, 42, 89, 180, 0, 7, 4, 96]
abbrev dktJ4_linkLast_1 : List UInt8 := dkwJ4_linkLast_1 ++ dktJ4_linkLast_2
def dkwJ4_linkLast_0 : List UInt8 := [42, 180, 0, 27, 77, 187, 0, 22, 89, 44, 43, 1, 183, 0, 24, 78, 42, 45, 181, 0, 27, 44]
abbrev dktJ4_linkLast_0 : List UInt8 := dkwJ4_linkLast_0 ++ dktJ4_linkLast_1
theorem dksJ4_linkLast_0 : cJ4_linkLast.data.toList.drop 0 = dktJ4_linkLast_0 := by decide +kernel
theorem dksJ4_linkLast_1 : cJ4_linkLast.data.toList.drop 22 = dktJ4_linkLast_1 := dk_seg dksJ4_linkLast_0 22 rfl rfl
theorem dksJ4_linkLast_2 : cJ4_linkLast.data.toList.drop 45 = dktJ4_linkLast_2 := dk_seg dksJ4_linkLast_1 23 rfl rfl
theorem dJ4_linkLast_0 : decode cJ4_linkLast 0 = .ok (.aload_n 0, 1) := dk_42 (dk_at dksJ4_linkLast_0 0 rfl rfl)
theorem dJ4_linkLast_1 : decode cJ4_linkLast 1 = .ok (.getfield 27, 3) := dk_180 0 27 (dk_at dksJ4_linkLast_0 1 rfl rfl)
theorem dJ4_linkLast_4 : decode cJ4_linkLast 4 = .ok (.astore_n 2, 1) := dk_77 (dk_at dksJ4_linkLast_0 4 rfl rfl)
theorem dJ4_linkLast_5 : decode cJ4_linkLast 5 = .ok (.new 22, 3) := dk_187 0 22 (dk_at dksJ4_linkLast_0 5 rfl rfl)
theorem dJ4_linkLast_8 : decode cJ4_linkLast 8 = .ok (.dup, 1) := dk_89 (dk_at dksJ4_linkLast_0 8 rfl rfl)
theorem dJ4_linkLast_9 : decode cJ4_linkLast 9 = .ok (.aload_n 2, 1) := dk_44 (dk_at dksJ4_linkLast_0 9 rfl rfl)
theorem dJ4_linkLast_10 : decode cJ4_linkLast 10 = .ok (.aload_n 1, 1) := dk_43 (dk_at dksJ4_linkLast_0 10 rfl rfl)
theorem dJ4_linkLast_11 : decode cJ4_linkLast 11 = .ok (.aconst_null, 1) := dk_1 (dk_at dksJ4_linkLast_0 11 rfl rfl)
theorem dJ4_linkLast_12 : decode cJ4_linkLast 12 = .ok (.invokespecial 24, 3) := dk_183 0 24 (dk_at dksJ4_linkLast_0 12 rfl rfl)
theorem dJ4_linkLast_15 : decode cJ4_linkLast 15 = .ok (.astore_n 3, 1) := dk_78 (dk_at dksJ4_linkLast_0 15 rfl rfl)
theorem dJ4_linkLast_16 : decode cJ4_linkLast 16 = .ok (.aload_n 0, 1) := dk_42 (dk_at dksJ4_linkLast_0 16 rfl rfl)
theorem dJ4_linkLast_17 : decode cJ4_linkLast 17 = .ok (.aload_n 3, 1) := dk_45 (dk_at dksJ4_linkLast_0 17 rfl rfl)
theorem dJ4_linkLast_18 : decode cJ4_linkLast 18 = .ok (.putfield 27, 3) := dk_181 0 27 (dk_at dksJ4_linkLast_0 18 rfl rfl)
theorem dJ4_linkLast_21 : decode cJ4_linkLast 21 = .ok (.aload_n 2, 1) := dk_44 (dk_at dksJ4_linkLast_0 21 rfl rfl)
theorem dJ4_linkLast_22 : decode cJ4_linkLast 22 = .ok (.ifnonnull 11, 3) := dk_199 0 11 (dk_at dksJ4_linkLast_1 0 rfl rfl)
theorem dJ4_linkLast_25 : decode cJ4_linkLast 25 = .ok (.aload_n 0, 1) := dk_42 (dk_at dksJ4_linkLast_1 3 rfl rfl)
theorem dJ4_linkLast_26 : decode cJ4_linkLast 26 = .ok (.aload_n 3, 1) := dk_45 (dk_at dksJ4_linkLast_1 4 rfl rfl)
theorem dJ4_linkLast_27 : decode cJ4_linkLast 27 = .ok (.putfield 18, 3) := dk_181 0 18 (dk_at dksJ4_linkLast_1 5 rfl rfl)
theorem dJ4_linkLast_30 : decode cJ4_linkLast 30 = .ok (.goto 8, 3) := dk_167 0 8 (dk_at dksJ4_linkLast_1 8 rfl rfl)
theorem dJ4_linkLast_33 : decode cJ4_linkLast 33 = .ok (.aload_n 2, 1) := dk_44 (dk_at dksJ4_linkLast_1 11 rfl rfl)
theorem dJ4_linkLast_34 : decode cJ4_linkLast 34 = .ok (.aload_n 3, 1) := dk_45 (dk_at dksJ4_linkLast_1 12 rfl rfl)
theorem dJ4_linkLast_35 : decode cJ4_linkLast 35 = .ok (.putfield 36, 3) := dk_181 0 36 (dk_at dksJ4_linkLast_1 13 rfl rfl)
theorem dJ4_linkLast_38 : decode cJ4_linkLast 38 = .ok (.aload_n 0, 1) := dk_42 (dk_at dksJ4_linkLast_1 16 rfl rfl)
theorem dJ4_linkLast_39 : decode cJ4_linkLast 39 = .ok (.dup, 1) := dk_89 (dk_at dksJ4_linkLast_1 17 rfl rfl)
theorem dJ4_linkLast_40 : decode cJ4_linkLast 40 = .ok (.getfield 7, 3) := dk_180 0 7 (dk_at dksJ4_linkLast_1 18 rfl rfl)
theorem dJ4_linkLast_43 : decode cJ4_linkLast 43 = .ok (.iconst 1, 1) := dk_4 (dk_at dksJ4_linkLast_1 21 rfl rfl)
theorem dJ4_linkLast_44 : decode cJ4_linkLast 44 = .ok (.iadd, 1) := dk_96 (dk_at dksJ4_linkLast_1 22 rfl rfl)
theorem dJ4_linkLast_45 : decode cJ4_linkLast 45 = .ok (.putfield 7, 3) := dk_181 0 7 (dk_at dksJ4_linkLast_2 0 rfl rfl)
theorem dJ4_linkLast_48 : decode cJ4_linkLast 48 = .ok (.aload_n 0, 1) := dk_42 (dk_at dksJ4_linkLast_2 3 rfl rfl)
theorem dJ4_linkLast_49 : decode cJ4_linkLast 49 = .ok (.dup, 1) := dk_89 (dk_at dksJ4_linkLast_2 4 rfl rfl)
theorem dJ4_linkLast_50 : decode cJ4_linkLast 50 = .ok (.getfield 33, 3) := dk_180 0 33 (dk_at dksJ4_linkLast_2 5 rfl rfl)
theorem dJ4_linkLast_53 : decode cJ4_linkLast 53 = .ok (.iconst 1, 1) := dk_4 (dk_at dksJ4_linkLast_2 8 rfl rfl)
theorem dJ4_linkLast_54 : decode cJ4_linkLast 54 = .ok (.iadd, 1) := dk_96 (dk_at dksJ4_linkLast_2 9 rfl rfl)
theorem dJ4_linkLast_55 : decode cJ4_linkLast 55 = .ok (.putfield 33, 3) := dk_181 0 33 (dk_at dksJ4_linkLast_2 10 rfl rfl)
theorem dJ4_linkLast_58 : decode cJ4_linkLast 58 = .ok (.return_, 1) := dk_177 (dk_at dksJ4_linkLast_2 13 rfl rfl)
abbrev cJ4_removeFirst : ByteArray := prog_62_method_11_code
def yJ4_removeFirst : MethodName := ⟨RJ4, "removeFirst", "()Ljava/lang/Object;"⟩
def dkwJ4_removeFirst_0 : List UInt8 := [42, 180, 0, 18, 76, 43, 199, 0, 11, 187, 0, 43, 89, 183, 0, 45, 191, 42, 43, 182, 0, 46, 176]
abbrev dktJ4_removeFirst_0 : List UInt8 := dkwJ4_removeFirst_0 ++ []
theorem dksJ4_removeFirst_0 : cJ4_removeFirst.data.toList.drop 0 = dktJ4_removeFirst_0 := by decide +kernel
theorem dJ4_removeFirst_0 : decode cJ4_removeFirst 0 = .ok (.aload_n 0, 1) := dk_42 (dk_at dksJ4_removeFirst_0 0 rfl rfl)
theorem dJ4_removeFirst_1 : decode cJ4_removeFirst 1 = .ok (.getfield 18, 3) := dk_180 0 18 (dk_at dksJ4_removeFirst_0 1 rfl rfl)
theorem dJ4_removeFirst_4 : decode cJ4_removeFirst 4 = .ok (.astore_n 1, 1) := dk_76 (dk_at dksJ4_removeFirst_0 4 rfl rfl)
theorem dJ4_removeFirst_5 : decode cJ4_removeFirst 5 = .ok (.aload_n 1, 1) := dk_43 (dk_at dksJ4_removeFirst_0 5 rfl rfl)
theorem dJ4_removeFirst_6 : decode cJ4_removeFirst 6 = .ok (.ifnonnull 11, 3) := dk_199 0 11 (dk_at dksJ4_removeFirst_0 6 rfl rfl)
theorem dJ4_removeFirst_9 : decode cJ4_removeFirst 9 = .ok (.new 43, 3) := dk_187 0 43 (dk_at dksJ4_removeFirst_0 9 rfl rfl)
theorem dJ4_removeFirst_12 : decode cJ4_removeFirst 12 = .ok (.dup, 1) := dk_89 (dk_at dksJ4_removeFirst_0 12 rfl rfl)
theorem dJ4_removeFirst_13 : decode cJ4_removeFirst 13 = .ok (.invokespecial 45, 3) := dk_183 0 45 (dk_at dksJ4_removeFirst_0 13 rfl rfl)
theorem dJ4_removeFirst_16 : decode cJ4_removeFirst 16 = .ok (.athrow, 1) := dk_191 (dk_at dksJ4_removeFirst_0 16 rfl rfl)
theorem dJ4_removeFirst_17 : decode cJ4_removeFirst 17 = .ok (.aload_n 0, 1) := dk_42 (dk_at dksJ4_removeFirst_0 17 rfl rfl)
theorem dJ4_removeFirst_18 : decode cJ4_removeFirst 18 = .ok (.aload_n 1, 1) := dk_43 (dk_at dksJ4_removeFirst_0 18 rfl rfl)
theorem dJ4_removeFirst_19 : decode cJ4_removeFirst 19 = .ok (.invokevirtual 46, 3) := dk_182 0 46 (dk_at dksJ4_removeFirst_0 19 rfl rfl)
theorem dJ4_removeFirst_22 : decode cJ4_removeFirst 22 = .ok (.areturn, 1) := dk_176 (dk_at dksJ4_removeFirst_0 22 rfl rfl)
abbrev cJ4_unlinkFirst : ByteArray := prog_62_method_6_code
def yJ4_unlinkFirst : MethodName := ⟨RJ4, "unlinkFirst", "(Ljava/util/LinkedList$Node;)Ljava/lang/Object;"⟩
def dkwJ4_unlinkFirst_2 : List UInt8 := [180, 0, 7, 4, 100, 181, 0, 7, 42, 89, 180, 0, 33, 4, 96, 181, 0, 33, 44, 176]
abbrev dktJ4_unlinkFirst_2 : List UInt8 := dkwJ4_unlinkFirst_2 ++ []
def dkwJ4_unlinkFirst_1 : List UInt8 := [181, 0, 18, 45, 199, 0, 11, 42, 1, 181, 0, 27, 167, 0, 8, 45, 1, 181, 0, 30, 42, 89]
abbrev dktJ4_unlinkFirst_1 : List UInt8 := dkwJ4_unlinkFirst_1 ++ dktJ4_unlinkFirst_2
def dkwJ4_unlinkFirst_0 : List UInt8 := [43, 180, 0, 39, 77, 43, 180, 0, 36, 78, 43, 1, 181, 0, 39, 43, 1, 181, 0, 36, 42, 45]
abbrev dktJ4_unlinkFirst_0 : List UInt8 := dkwJ4_unlinkFirst_0 ++ dktJ4_unlinkFirst_1
theorem dksJ4_unlinkFirst_0 : cJ4_unlinkFirst.data.toList.drop 0 = dktJ4_unlinkFirst_0 := by decide +kernel
theorem dksJ4_unlinkFirst_1 : cJ4_unlinkFirst.data.toList.drop 22 = dktJ4_unlinkFirst_1 := dk_seg dksJ4_unlinkFirst_0 22 rfl rfl
theorem dksJ4_unlinkFirst_2 : cJ4_unlinkFirst.data.toList.drop 44 = dktJ4_unlinkFirst_2 := dk_seg dksJ4_unlinkFirst_1 22 rfl rfl
theorem dJ4_unlinkFirst_0 : decode cJ4_unlinkFirst 0 = .ok (.aload_n 1, 1) := dk_43 (dk_at dksJ4_unlinkFirst_0 0 rfl rfl)
theorem dJ4_unlinkFirst_1 : decode cJ4_unlinkFirst 1 = .ok (.getfield 39, 3) := dk_180 0 39 (dk_at dksJ4_unlinkFirst_0 1 rfl rfl)
theorem dJ4_unlinkFirst_4 : decode cJ4_unlinkFirst 4 = .ok (.astore_n 2, 1) := dk_77 (dk_at dksJ4_unlinkFirst_0 4 rfl rfl)
theorem dJ4_unlinkFirst_5 : decode cJ4_unlinkFirst 5 = .ok (.aload_n 1, 1) := dk_43 (dk_at dksJ4_unlinkFirst_0 5 rfl rfl)
theorem dJ4_unlinkFirst_6 : decode cJ4_unlinkFirst 6 = .ok (.getfield 36, 3) := dk_180 0 36 (dk_at dksJ4_unlinkFirst_0 6 rfl rfl)
theorem dJ4_unlinkFirst_9 : decode cJ4_unlinkFirst 9 = .ok (.astore_n 3, 1) := dk_78 (dk_at dksJ4_unlinkFirst_0 9 rfl rfl)
theorem dJ4_unlinkFirst_10 : decode cJ4_unlinkFirst 10 = .ok (.aload_n 1, 1) := dk_43 (dk_at dksJ4_unlinkFirst_0 10 rfl rfl)
theorem dJ4_unlinkFirst_11 : decode cJ4_unlinkFirst 11 = .ok (.aconst_null, 1) := dk_1 (dk_at dksJ4_unlinkFirst_0 11 rfl rfl)
theorem dJ4_unlinkFirst_12 : decode cJ4_unlinkFirst 12 = .ok (.putfield 39, 3) := dk_181 0 39 (dk_at dksJ4_unlinkFirst_0 12 rfl rfl)
theorem dJ4_unlinkFirst_15 : decode cJ4_unlinkFirst 15 = .ok (.aload_n 1, 1) := dk_43 (dk_at dksJ4_unlinkFirst_0 15 rfl rfl)
theorem dJ4_unlinkFirst_16 : decode cJ4_unlinkFirst 16 = .ok (.aconst_null, 1) := dk_1 (dk_at dksJ4_unlinkFirst_0 16 rfl rfl)
theorem dJ4_unlinkFirst_17 : decode cJ4_unlinkFirst 17 = .ok (.putfield 36, 3) := dk_181 0 36 (dk_at dksJ4_unlinkFirst_0 17 rfl rfl)
theorem dJ4_unlinkFirst_20 : decode cJ4_unlinkFirst 20 = .ok (.aload_n 0, 1) := dk_42 (dk_at dksJ4_unlinkFirst_0 20 rfl rfl)
theorem dJ4_unlinkFirst_21 : decode cJ4_unlinkFirst 21 = .ok (.aload_n 3, 1) := dk_45 (dk_at dksJ4_unlinkFirst_0 21 rfl rfl)
theorem dJ4_unlinkFirst_22 : decode cJ4_unlinkFirst 22 = .ok (.putfield 18, 3) := dk_181 0 18 (dk_at dksJ4_unlinkFirst_1 0 rfl rfl)
theorem dJ4_unlinkFirst_25 : decode cJ4_unlinkFirst 25 = .ok (.aload_n 3, 1) := dk_45 (dk_at dksJ4_unlinkFirst_1 3 rfl rfl)
theorem dJ4_unlinkFirst_26 : decode cJ4_unlinkFirst 26 = .ok (.ifnonnull 11, 3) := dk_199 0 11 (dk_at dksJ4_unlinkFirst_1 4 rfl rfl)
theorem dJ4_unlinkFirst_29 : decode cJ4_unlinkFirst 29 = .ok (.aload_n 0, 1) := dk_42 (dk_at dksJ4_unlinkFirst_1 7 rfl rfl)
theorem dJ4_unlinkFirst_30 : decode cJ4_unlinkFirst 30 = .ok (.aconst_null, 1) := dk_1 (dk_at dksJ4_unlinkFirst_1 8 rfl rfl)
theorem dJ4_unlinkFirst_31 : decode cJ4_unlinkFirst 31 = .ok (.putfield 27, 3) := dk_181 0 27 (dk_at dksJ4_unlinkFirst_1 9 rfl rfl)
theorem dJ4_unlinkFirst_34 : decode cJ4_unlinkFirst 34 = .ok (.goto 8, 3) := dk_167 0 8 (dk_at dksJ4_unlinkFirst_1 12 rfl rfl)
theorem dJ4_unlinkFirst_37 : decode cJ4_unlinkFirst 37 = .ok (.aload_n 3, 1) := dk_45 (dk_at dksJ4_unlinkFirst_1 15 rfl rfl)
theorem dJ4_unlinkFirst_38 : decode cJ4_unlinkFirst 38 = .ok (.aconst_null, 1) := dk_1 (dk_at dksJ4_unlinkFirst_1 16 rfl rfl)
theorem dJ4_unlinkFirst_39 : decode cJ4_unlinkFirst 39 = .ok (.putfield 30, 3) := dk_181 0 30 (dk_at dksJ4_unlinkFirst_1 17 rfl rfl)
theorem dJ4_unlinkFirst_42 : decode cJ4_unlinkFirst 42 = .ok (.aload_n 0, 1) := dk_42 (dk_at dksJ4_unlinkFirst_1 20 rfl rfl)
theorem dJ4_unlinkFirst_43 : decode cJ4_unlinkFirst 43 = .ok (.dup, 1) := dk_89 (dk_at dksJ4_unlinkFirst_1 21 rfl rfl)
theorem dJ4_unlinkFirst_44 : decode cJ4_unlinkFirst 44 = .ok (.getfield 7, 3) := dk_180 0 7 (dk_at dksJ4_unlinkFirst_2 0 rfl rfl)
theorem dJ4_unlinkFirst_47 : decode cJ4_unlinkFirst 47 = .ok (.iconst 1, 1) := dk_4 (dk_at dksJ4_unlinkFirst_2 3 rfl rfl)
theorem dJ4_unlinkFirst_48 : decode cJ4_unlinkFirst 48 = .ok (.isub, 1) := dk_100 (dk_at dksJ4_unlinkFirst_2 4 rfl rfl)
theorem dJ4_unlinkFirst_49 : decode cJ4_unlinkFirst 49 = .ok (.putfield 7, 3) := dk_181 0 7 (dk_at dksJ4_unlinkFirst_2 5 rfl rfl)
theorem dJ4_unlinkFirst_52 : decode cJ4_unlinkFirst 52 = .ok (.aload_n 0, 1) := dk_42 (dk_at dksJ4_unlinkFirst_2 8 rfl rfl)
theorem dJ4_unlinkFirst_53 : decode cJ4_unlinkFirst 53 = .ok (.dup, 1) := dk_89 (dk_at dksJ4_unlinkFirst_2 9 rfl rfl)
theorem dJ4_unlinkFirst_54 : decode cJ4_unlinkFirst 54 = .ok (.getfield 33, 3) := dk_180 0 33 (dk_at dksJ4_unlinkFirst_2 10 rfl rfl)
theorem dJ4_unlinkFirst_57 : decode cJ4_unlinkFirst 57 = .ok (.iconst 1, 1) := dk_4 (dk_at dksJ4_unlinkFirst_2 13 rfl rfl)
theorem dJ4_unlinkFirst_58 : decode cJ4_unlinkFirst 58 = .ok (.iadd, 1) := dk_96 (dk_at dksJ4_unlinkFirst_2 14 rfl rfl)
theorem dJ4_unlinkFirst_59 : decode cJ4_unlinkFirst 59 = .ok (.putfield 33, 3) := dk_181 0 33 (dk_at dksJ4_unlinkFirst_2 15 rfl rfl)
theorem dJ4_unlinkFirst_62 : decode cJ4_unlinkFirst 62 = .ok (.aload_n 2, 1) := dk_44 (dk_at dksJ4_unlinkFirst_2 18 rfl rfl)
theorem dJ4_unlinkFirst_63 : decode cJ4_unlinkFirst 63 = .ok (.areturn, 1) := dk_176 (dk_at dksJ4_unlinkFirst_2 19 rfl rfl)
abbrev cJ4_addLast : ByteArray := prog_62_method_14_code
def yJ4_addLast : MethodName := ⟨RJ4, "addLast", "(Ljava/lang/Object;)V"⟩
def dkwJ4_addLast_0 : List UInt8 := [42, 43, 182, 0, 57, 177]
abbrev dktJ4_addLast_0 : List UInt8 := dkwJ4_addLast_0 ++ []
theorem dksJ4_addLast_0 : cJ4_addLast.data.toList.drop 0 = dktJ4_addLast_0 := by decide +kernel
theorem dJ4_addLast_0 : decode cJ4_addLast 0 = .ok (.aload_n 0, 1) := dk_42 (dk_at dksJ4_addLast_0 0 rfl rfl)
theorem dJ4_addLast_1 : decode cJ4_addLast 1 = .ok (.aload_n 1, 1) := dk_43 (dk_at dksJ4_addLast_0 1 rfl rfl)
theorem dJ4_addLast_2 : decode cJ4_addLast 2 = .ok (.invokevirtual 57, 3) := dk_182 0 57 (dk_at dksJ4_addLast_0 2 rfl rfl)
theorem dJ4_addLast_5 : decode cJ4_addLast 5 = .ok (.return_, 1) := dk_177 (dk_at dksJ4_addLast_0 5 rfl rfl)
abbrev cJ4_removeLast : ByteArray := prog_62_method_12_code
def yJ4_removeLast : MethodName := ⟨RJ4, "removeLast", "()Ljava/lang/Object;"⟩
def dkwJ4_removeLast_0 : List UInt8 := [42, 180, 0, 27, 76, 43, 199, 0, 11, 187, 0, 43, 89, 183, 0, 45, 191, 42, 43, 182, 0, 50, 176]
abbrev dktJ4_removeLast_0 : List UInt8 := dkwJ4_removeLast_0 ++ []
theorem dksJ4_removeLast_0 : cJ4_removeLast.data.toList.drop 0 = dktJ4_removeLast_0 := by decide +kernel
theorem dJ4_removeLast_0 : decode cJ4_removeLast 0 = .ok (.aload_n 0, 1) := dk_42 (dk_at dksJ4_removeLast_0 0 rfl rfl)
theorem dJ4_removeLast_1 : decode cJ4_removeLast 1 = .ok (.getfield 27, 3) := dk_180 0 27 (dk_at dksJ4_removeLast_0 1 rfl rfl)
theorem dJ4_removeLast_4 : decode cJ4_removeLast 4 = .ok (.astore_n 1, 1) := dk_76 (dk_at dksJ4_removeLast_0 4 rfl rfl)
theorem dJ4_removeLast_5 : decode cJ4_removeLast 5 = .ok (.aload_n 1, 1) := dk_43 (dk_at dksJ4_removeLast_0 5 rfl rfl)
theorem dJ4_removeLast_6 : decode cJ4_removeLast 6 = .ok (.ifnonnull 11, 3) := dk_199 0 11 (dk_at dksJ4_removeLast_0 6 rfl rfl)
theorem dJ4_removeLast_9 : decode cJ4_removeLast 9 = .ok (.new 43, 3) := dk_187 0 43 (dk_at dksJ4_removeLast_0 9 rfl rfl)
theorem dJ4_removeLast_12 : decode cJ4_removeLast 12 = .ok (.dup, 1) := dk_89 (dk_at dksJ4_removeLast_0 12 rfl rfl)
theorem dJ4_removeLast_13 : decode cJ4_removeLast 13 = .ok (.invokespecial 45, 3) := dk_183 0 45 (dk_at dksJ4_removeLast_0 13 rfl rfl)
theorem dJ4_removeLast_16 : decode cJ4_removeLast 16 = .ok (.athrow, 1) := dk_191 (dk_at dksJ4_removeLast_0 16 rfl rfl)
theorem dJ4_removeLast_17 : decode cJ4_removeLast 17 = .ok (.aload_n 0, 1) := dk_42 (dk_at dksJ4_removeLast_0 17 rfl rfl)
theorem dJ4_removeLast_18 : decode cJ4_removeLast 18 = .ok (.aload_n 1, 1) := dk_43 (dk_at dksJ4_removeLast_0 18 rfl rfl)
theorem dJ4_removeLast_19 : decode cJ4_removeLast 19 = .ok (.invokevirtual 50, 3) := dk_182 0 50 (dk_at dksJ4_removeLast_0 19 rfl rfl)
theorem dJ4_removeLast_22 : decode cJ4_removeLast 22 = .ok (.areturn, 1) := dk_176 (dk_at dksJ4_removeLast_0 22 rfl rfl)
abbrev cJ4_unlinkLast : ByteArray := prog_62_method_7_code
def yJ4_unlinkLast : MethodName := ⟨RJ4, "unlinkLast", "(Ljava/util/LinkedList$Node;)Ljava/lang/Object;"⟩
def dkwJ4_unlinkLast_2 : List UInt8 := [180, 0, 7, 4, 100, 181, 0, 7, 42, 89, 180, 0, 33, 4, 96, 181, 0, 33, 44, 176]
abbrev dktJ4_unlinkLast_2 : List UInt8 := dkwJ4_unlinkLast_2 ++ []
def dkwJ4_unlinkLast_1 : List UInt8 := [181, 0, 27, 45, 199, 0, 11, 42, 1, 181, 0, 18, 167, 0, 8, 45, 1, 181, 0, 36, 42, 89]
abbrev dktJ4_unlinkLast_1 : List UInt8 := dkwJ4_unlinkLast_1 ++ dktJ4_unlinkLast_2
def dkwJ4_unlinkLast_0 : List UInt8 := [43, 180, 0, 39, 77, 43, 180, 0, 30, 78, 43, 1, 181, 0, 39, 43, 1, 181, 0, 30, 42, 45]
abbrev dktJ4_unlinkLast_0 : List UInt8 := dkwJ4_unlinkLast_0 ++ dktJ4_unlinkLast_1
theorem dksJ4_unlinkLast_0 : cJ4_unlinkLast.data.toList.drop 0 = dktJ4_unlinkLast_0 := by decide +kernel
theorem dksJ4_unlinkLast_1 : cJ4_unlinkLast.data.toList.drop 22 = dktJ4_unlinkLast_1 := dk_seg dksJ4_unlinkLast_0 22 rfl rfl
theorem dksJ4_unlinkLast_2 : cJ4_unlinkLast.data.toList.drop 44 = dktJ4_unlinkLast_2 := dk_seg dksJ4_unlinkLast_1 22 rfl rfl
theorem dJ4_unlinkLast_0 : decode cJ4_unlinkLast 0 = .ok (.aload_n 1, 1) := dk_43 (dk_at dksJ4_unlinkLast_0 0 rfl rfl)
theorem dJ4_unlinkLast_1 : decode cJ4_unlinkLast 1 = .ok (.getfield 39, 3) := dk_180 0 39 (dk_at dksJ4_unlinkLast_0 1 rfl rfl)
theorem dJ4_unlinkLast_4 : decode cJ4_unlinkLast 4 = .ok (.astore_n 2, 1) := dk_77 (dk_at dksJ4_unlinkLast_0 4 rfl rfl)
theorem dJ4_unlinkLast_5 : decode cJ4_unlinkLast 5 = .ok (.aload_n 1, 1) := dk_43 (dk_at dksJ4_unlinkLast_0 5 rfl rfl)
theorem dJ4_unlinkLast_6 : decode cJ4_unlinkLast 6 = .ok (.getfield 30, 3) := dk_180 0 30 (dk_at dksJ4_unlinkLast_0 6 rfl rfl)
theorem dJ4_unlinkLast_9 : decode cJ4_unlinkLast 9 = .ok (.astore_n 3, 1) := dk_78 (dk_at dksJ4_unlinkLast_0 9 rfl rfl)
theorem dJ4_unlinkLast_10 : decode cJ4_unlinkLast 10 = .ok (.aload_n 1, 1) := dk_43 (dk_at dksJ4_unlinkLast_0 10 rfl rfl)
theorem dJ4_unlinkLast_11 : decode cJ4_unlinkLast 11 = .ok (.aconst_null, 1) := dk_1 (dk_at dksJ4_unlinkLast_0 11 rfl rfl)
theorem dJ4_unlinkLast_12 : decode cJ4_unlinkLast 12 = .ok (.putfield 39, 3) := dk_181 0 39 (dk_at dksJ4_unlinkLast_0 12 rfl rfl)
theorem dJ4_unlinkLast_15 : decode cJ4_unlinkLast 15 = .ok (.aload_n 1, 1) := dk_43 (dk_at dksJ4_unlinkLast_0 15 rfl rfl)
theorem dJ4_unlinkLast_16 : decode cJ4_unlinkLast 16 = .ok (.aconst_null, 1) := dk_1 (dk_at dksJ4_unlinkLast_0 16 rfl rfl)
theorem dJ4_unlinkLast_17 : decode cJ4_unlinkLast 17 = .ok (.putfield 30, 3) := dk_181 0 30 (dk_at dksJ4_unlinkLast_0 17 rfl rfl)
theorem dJ4_unlinkLast_20 : decode cJ4_unlinkLast 20 = .ok (.aload_n 0, 1) := dk_42 (dk_at dksJ4_unlinkLast_0 20 rfl rfl)
theorem dJ4_unlinkLast_21 : decode cJ4_unlinkLast 21 = .ok (.aload_n 3, 1) := dk_45 (dk_at dksJ4_unlinkLast_0 21 rfl rfl)
theorem dJ4_unlinkLast_22 : decode cJ4_unlinkLast 22 = .ok (.putfield 27, 3) := dk_181 0 27 (dk_at dksJ4_unlinkLast_1 0 rfl rfl)
theorem dJ4_unlinkLast_25 : decode cJ4_unlinkLast 25 = .ok (.aload_n 3, 1) := dk_45 (dk_at dksJ4_unlinkLast_1 3 rfl rfl)
theorem dJ4_unlinkLast_26 : decode cJ4_unlinkLast 26 = .ok (.ifnonnull 11, 3) := dk_199 0 11 (dk_at dksJ4_unlinkLast_1 4 rfl rfl)
theorem dJ4_unlinkLast_29 : decode cJ4_unlinkLast 29 = .ok (.aload_n 0, 1) := dk_42 (dk_at dksJ4_unlinkLast_1 7 rfl rfl)
theorem dJ4_unlinkLast_30 : decode cJ4_unlinkLast 30 = .ok (.aconst_null, 1) := dk_1 (dk_at dksJ4_unlinkLast_1 8 rfl rfl)
theorem dJ4_unlinkLast_31 : decode cJ4_unlinkLast 31 = .ok (.putfield 18, 3) := dk_181 0 18 (dk_at dksJ4_unlinkLast_1 9 rfl rfl)
theorem dJ4_unlinkLast_34 : decode cJ4_unlinkLast 34 = .ok (.goto 8, 3) := dk_167 0 8 (dk_at dksJ4_unlinkLast_1 12 rfl rfl)
theorem dJ4_unlinkLast_37 : decode cJ4_unlinkLast 37 = .ok (.aload_n 3, 1) := dk_45 (dk_at dksJ4_unlinkLast_1 15 rfl rfl)
theorem dJ4_unlinkLast_38 : decode cJ4_unlinkLast 38 = .ok (.aconst_null, 1) := dk_1 (dk_at dksJ4_unlinkLast_1 16 rfl rfl)
theorem dJ4_unlinkLast_39 : decode cJ4_unlinkLast 39 = .ok (.putfield 36, 3) := dk_181 0 36 (dk_at dksJ4_unlinkLast_1 17 rfl rfl)
theorem dJ4_unlinkLast_42 : decode cJ4_unlinkLast 42 = .ok (.aload_n 0, 1) := dk_42 (dk_at dksJ4_unlinkLast_1 20 rfl rfl)
theorem dJ4_unlinkLast_43 : decode cJ4_unlinkLast 43 = .ok (.dup, 1) := dk_89 (dk_at dksJ4_unlinkLast_1 21 rfl rfl)
theorem dJ4_unlinkLast_44 : decode cJ4_unlinkLast 44 = .ok (.getfield 7, 3) := dk_180 0 7 (dk_at dksJ4_unlinkLast_2 0 rfl rfl)
theorem dJ4_unlinkLast_47 : decode cJ4_unlinkLast 47 = .ok (.iconst 1, 1) := dk_4 (dk_at dksJ4_unlinkLast_2 3 rfl rfl)
theorem dJ4_unlinkLast_48 : decode cJ4_unlinkLast 48 = .ok (.isub, 1) := dk_100 (dk_at dksJ4_unlinkLast_2 4 rfl rfl)
theorem dJ4_unlinkLast_49 : decode cJ4_unlinkLast 49 = .ok (.putfield 7, 3) := dk_181 0 7 (dk_at dksJ4_unlinkLast_2 5 rfl rfl)
theorem dJ4_unlinkLast_52 : decode cJ4_unlinkLast 52 = .ok (.aload_n 0, 1) := dk_42 (dk_at dksJ4_unlinkLast_2 8 rfl rfl)
theorem dJ4_unlinkLast_53 : decode cJ4_unlinkLast 53 = .ok (.dup, 1) := dk_89 (dk_at dksJ4_unlinkLast_2 9 rfl rfl)
theorem dJ4_unlinkLast_54 : decode cJ4_unlinkLast 54 = .ok (.getfield 33, 3) := dk_180 0 33 (dk_at dksJ4_unlinkLast_2 10 rfl rfl)
theorem dJ4_unlinkLast_57 : decode cJ4_unlinkLast 57 = .ok (.iconst 1, 1) := dk_4 (dk_at dksJ4_unlinkLast_2 13 rfl rfl)
theorem dJ4_unlinkLast_58 : decode cJ4_unlinkLast 58 = .ok (.iadd, 1) := dk_96 (dk_at dksJ4_unlinkLast_2 14 rfl rfl)
theorem dJ4_unlinkLast_59 : decode cJ4_unlinkLast 59 = .ok (.putfield 33, 3) := dk_181 0 33 (dk_at dksJ4_unlinkLast_2 15 rfl rfl)
theorem dJ4_unlinkLast_62 : decode cJ4_unlinkLast 62 = .ok (.aload_n 2, 1) := dk_44 (dk_at dksJ4_unlinkLast_2 18 rfl rfl)
theorem dJ4_unlinkLast_63 : decode cJ4_unlinkLast 63 = .ok (.areturn, 1) := dk_176 (dk_at dksJ4_unlinkLast_2 19 rfl rfl)
abbrev cJ4_clear : ByteArray := prog_62_method_21_code
def yJ4_clear : MethodName := ⟨RJ4, "clear", "()V"⟩
def dkwJ4_clear_2 : List UInt8 := [181, 0, 7, 42, 89, 180, 0, 33, 4, 96, 181, 0, 33, 177]
abbrev dktJ4_clear_2 : List UInt8 := dkwJ4_clear_2 ++ []
def dkwJ4_clear_1 : List UInt8 := [43, 1, 181, 0, 30, 44, 76, 167, 255, 230, 42, 42, 1, 90, 181, 0, 27, 181, 0, 18, 42, 3]
abbrev dktJ4_clear_1 : List UInt8 := dkwJ4_clear_1 ++ dktJ4_clear_2
def dkwJ4_clear_0 : List UInt8 := [42, 180, 0, 18, 76, 43, 198, 0, 28, 43, 180, 0, 36, 77, 43, 1, 181, 0, 39, 43, 1, 181, 0, 36]
abbrev dktJ4_clear_0 : List UInt8 := dkwJ4_clear_0 ++ dktJ4_clear_1
theorem dksJ4_clear_0 : cJ4_clear.data.toList.drop 0 = dktJ4_clear_0 := by decide +kernel
theorem dksJ4_clear_1 : cJ4_clear.data.toList.drop 24 = dktJ4_clear_1 := dk_seg dksJ4_clear_0 24 rfl rfl
theorem dksJ4_clear_2 : cJ4_clear.data.toList.drop 46 = dktJ4_clear_2 := dk_seg dksJ4_clear_1 22 rfl rfl
theorem dJ4_clear_0 : decode cJ4_clear 0 = .ok (.aload_n 0, 1) := dk_42 (dk_at dksJ4_clear_0 0 rfl rfl)
theorem dJ4_clear_1 : decode cJ4_clear 1 = .ok (.getfield 18, 3) := dk_180 0 18 (dk_at dksJ4_clear_0 1 rfl rfl)
theorem dJ4_clear_4 : decode cJ4_clear 4 = .ok (.astore_n 1, 1) := dk_76 (dk_at dksJ4_clear_0 4 rfl rfl)
theorem dJ4_clear_5 : decode cJ4_clear 5 = .ok (.aload_n 1, 1) := dk_43 (dk_at dksJ4_clear_0 5 rfl rfl)
theorem dJ4_clear_6 : decode cJ4_clear 6 = .ok (.ifnull 28, 3) := dk_198 0 28 (dk_at dksJ4_clear_0 6 rfl rfl)
theorem dJ4_clear_9 : decode cJ4_clear 9 = .ok (.aload_n 1, 1) := dk_43 (dk_at dksJ4_clear_0 9 rfl rfl)
theorem dJ4_clear_10 : decode cJ4_clear 10 = .ok (.getfield 36, 3) := dk_180 0 36 (dk_at dksJ4_clear_0 10 rfl rfl)
theorem dJ4_clear_13 : decode cJ4_clear 13 = .ok (.astore_n 2, 1) := dk_77 (dk_at dksJ4_clear_0 13 rfl rfl)
theorem dJ4_clear_14 : decode cJ4_clear 14 = .ok (.aload_n 1, 1) := dk_43 (dk_at dksJ4_clear_0 14 rfl rfl)
theorem dJ4_clear_15 : decode cJ4_clear 15 = .ok (.aconst_null, 1) := dk_1 (dk_at dksJ4_clear_0 15 rfl rfl)
theorem dJ4_clear_16 : decode cJ4_clear 16 = .ok (.putfield 39, 3) := dk_181 0 39 (dk_at dksJ4_clear_0 16 rfl rfl)
theorem dJ4_clear_19 : decode cJ4_clear 19 = .ok (.aload_n 1, 1) := dk_43 (dk_at dksJ4_clear_0 19 rfl rfl)
theorem dJ4_clear_20 : decode cJ4_clear 20 = .ok (.aconst_null, 1) := dk_1 (dk_at dksJ4_clear_0 20 rfl rfl)
theorem dJ4_clear_21 : decode cJ4_clear 21 = .ok (.putfield 36, 3) := dk_181 0 36 (dk_at dksJ4_clear_0 21 rfl rfl)
theorem dJ4_clear_24 : decode cJ4_clear 24 = .ok (.aload_n 1, 1) := dk_43 (dk_at dksJ4_clear_1 0 rfl rfl)
theorem dJ4_clear_25 : decode cJ4_clear 25 = .ok (.aconst_null, 1) := dk_1 (dk_at dksJ4_clear_1 1 rfl rfl)
theorem dJ4_clear_26 : decode cJ4_clear 26 = .ok (.putfield 30, 3) := dk_181 0 30 (dk_at dksJ4_clear_1 2 rfl rfl)
theorem dJ4_clear_29 : decode cJ4_clear 29 = .ok (.aload_n 2, 1) := dk_44 (dk_at dksJ4_clear_1 5 rfl rfl)
theorem dJ4_clear_30 : decode cJ4_clear 30 = .ok (.astore_n 1, 1) := dk_76 (dk_at dksJ4_clear_1 6 rfl rfl)
theorem dJ4_clear_31 : decode cJ4_clear 31 = .ok (.goto (-26), 3) := dk_167 255 230 (dk_at dksJ4_clear_1 7 rfl rfl)
theorem dJ4_clear_34 : decode cJ4_clear 34 = .ok (.aload_n 0, 1) := dk_42 (dk_at dksJ4_clear_1 10 rfl rfl)
theorem dJ4_clear_35 : decode cJ4_clear 35 = .ok (.aload_n 0, 1) := dk_42 (dk_at dksJ4_clear_1 11 rfl rfl)
theorem dJ4_clear_36 : decode cJ4_clear 36 = .ok (.aconst_null, 1) := dk_1 (dk_at dksJ4_clear_1 12 rfl rfl)
theorem dJ4_clear_37 : decode cJ4_clear 37 = .ok (.dup_x1, 1) := dk_90 (dk_at dksJ4_clear_1 13 rfl rfl)
theorem dJ4_clear_38 : decode cJ4_clear 38 = .ok (.putfield 27, 3) := dk_181 0 27 (dk_at dksJ4_clear_1 14 rfl rfl)
theorem dJ4_clear_41 : decode cJ4_clear 41 = .ok (.putfield 18, 3) := dk_181 0 18 (dk_at dksJ4_clear_1 17 rfl rfl)
theorem dJ4_clear_44 : decode cJ4_clear 44 = .ok (.aload_n 0, 1) := dk_42 (dk_at dksJ4_clear_1 20 rfl rfl)
theorem dJ4_clear_45 : decode cJ4_clear 45 = .ok (.iconst 0, 1) := dk_3 (dk_at dksJ4_clear_1 21 rfl rfl)
theorem dJ4_clear_46 : decode cJ4_clear 46 = .ok (.putfield 7, 3) := dk_181 0 7 (dk_at dksJ4_clear_2 0 rfl rfl)
theorem dJ4_clear_49 : decode cJ4_clear 49 = .ok (.aload_n 0, 1) := dk_42 (dk_at dksJ4_clear_2 3 rfl rfl)
theorem dJ4_clear_50 : decode cJ4_clear 50 = .ok (.dup, 1) := dk_89 (dk_at dksJ4_clear_2 4 rfl rfl)
theorem dJ4_clear_51 : decode cJ4_clear 51 = .ok (.getfield 33, 3) := dk_180 0 33 (dk_at dksJ4_clear_2 5 rfl rfl)
theorem dJ4_clear_54 : decode cJ4_clear 54 = .ok (.iconst 1, 1) := dk_4 (dk_at dksJ4_clear_2 8 rfl rfl)
theorem dJ4_clear_55 : decode cJ4_clear 55 = .ok (.iadd, 1) := dk_96 (dk_at dksJ4_clear_2 9 rfl rfl)
theorem dJ4_clear_56 : decode cJ4_clear 56 = .ok (.putfield 33, 3) := dk_181 0 33 (dk_at dksJ4_clear_2 10 rfl rfl)
theorem dJ4_clear_59 : decode cJ4_clear 59 = .ok (.return_, 1) := dk_177 (dk_at dksJ4_clear_2 13 rfl rfl)
