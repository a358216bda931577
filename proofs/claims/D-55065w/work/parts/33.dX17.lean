/-! code and decode rows of X17 (claim/names) -/
set_option maxRecDepth 100000
abbrev cX17_init : ByteArray := prog_11_method_1_code
def yX17_init : MethodName := ⟨RX17, "<init>", "(LBrassInspector;)V"⟩
def dkwX17_init_0 : List UInt8 := [42, 43, 181, 0, 1, 42, 183, 0, 7, 177]
abbrev dktX17_init_0 : List UInt8 := dkwX17_init_0 ++ []
theorem dksX17_init_0 : cX17_init.data.toList.drop 0 = dktX17_init_0 := by decide +kernel
theorem dX17_init_0 : decode cX17_init 0 = .ok (.aload_n 0, 1) := dk_42 (dk_at dksX17_init_0 0 rfl rfl)
theorem dX17_init_1 : decode cX17_init 1 = .ok (.aload_n 1, 1) := dk_43 (dk_at dksX17_init_0 1 rfl rfl)
theorem dX17_init_2 : decode cX17_init 2 = .ok (.putfield 1, 3) := dk_181 0 1 (dk_at dksX17_init_0 2 rfl rfl)
theorem dX17_init_5 : decode cX17_init 5 = .ok (.aload_n 0, 1) := dk_42 (dk_at dksX17_init_0 5 rfl rfl)
theorem dX17_init_6 : decode cX17_init 6 = .ok (.invokespecial 7, 3) := dk_183 0 7 (dk_at dksX17_init_0 6 rfl rfl)
theorem dX17_init_9 : decode cX17_init 9 = .ok (.return_, 1) := dk_177 (dk_at dksX17_init_0 9 rfl rfl)
abbrev cX17_orders : ByteArray := prog_11_method_12_code
def yX17_orders : MethodName := ⟨RX17, "orders", "()Ljava/util/List;"⟩
def dkwX17_orders_2 : List UInt8 := [185, 0, 121, 2, 0, 87, 167, 255, 222, 43, 176]
abbrev dktX17_orders_2 : List UInt8 := dkwX17_orders_2 ++ []
def dkwX17_orders_1 : List UInt8 := [180, 0, 1, 180, 0, 17, 182, 0, 23, 162, 0, 23, 42, 16, 59, 182, 0, 50, 43, 42, 182, 0, 117]
abbrev dktX17_orders_1 : List UInt8 := dkwX17_orders_1 ++ dktX17_orders_2
def dkwX17_orders_0 : List UInt8 := [187, 0, 114, 89, 183, 0, 116, 76, 43, 42, 182, 0, 117, 185, 0, 121, 2, 0, 87, 42, 180, 0, 13, 42]
abbrev dktX17_orders_0 : List UInt8 := dkwX17_orders_0 ++ dktX17_orders_1
theorem dksX17_orders_0 : cX17_orders.data.toList.drop 0 = dktX17_orders_0 := by decide +kernel
theorem dksX17_orders_1 : cX17_orders.data.toList.drop 24 = dktX17_orders_1 := dk_seg dksX17_orders_0 24 rfl rfl
theorem dksX17_orders_2 : cX17_orders.data.toList.drop 47 = dktX17_orders_2 := dk_seg dksX17_orders_1 23 rfl rfl
theorem dX17_orders_0 : decode cX17_orders 0 = .ok (.new 114, 3) := dk_187 0 114 (dk_at dksX17_orders_0 0 rfl rfl)
theorem dX17_orders_3 : decode cX17_orders 3 = .ok (.dup, 1) := dk_89 (dk_at dksX17_orders_0 3 rfl rfl)
theorem dX17_orders_4 : decode cX17_orders 4 = .ok (.invokespecial 116, 3) := dk_183 0 116 (dk_at dksX17_orders_0 4 rfl rfl)
theorem dX17_orders_7 : decode cX17_orders 7 = .ok (.astore_n 1, 1) := dk_76 (dk_at dksX17_orders_0 7 rfl rfl)
theorem dX17_orders_8 : decode cX17_orders 8 = .ok (.aload_n 1, 1) := dk_43 (dk_at dksX17_orders_0 8 rfl rfl)
theorem dX17_orders_9 : decode cX17_orders 9 = .ok (.aload_n 0, 1) := dk_42 (dk_at dksX17_orders_0 9 rfl rfl)
theorem dX17_orders_10 : decode cX17_orders 10 = .ok (.invokevirtual 117, 3) := dk_182 0 117 (dk_at dksX17_orders_0 10 rfl rfl)
theorem dX17_orders_13 : decode cX17_orders 13 = .ok (.invokeinterface 121 2, 5) := by decide +kernel
theorem dX17_orders_18 : decode cX17_orders 18 = .ok (.pop, 1) := dk_87 (dk_at dksX17_orders_0 18 rfl rfl)
theorem dX17_orders_19 : decode cX17_orders 19 = .ok (.aload_n 0, 1) := dk_42 (dk_at dksX17_orders_0 19 rfl rfl)
theorem dX17_orders_20 : decode cX17_orders 20 = .ok (.getfield 13, 3) := dk_180 0 13 (dk_at dksX17_orders_0 20 rfl rfl)
theorem dX17_orders_23 : decode cX17_orders 23 = .ok (.aload_n 0, 1) := dk_42 (dk_at dksX17_orders_0 23 rfl rfl)
theorem dX17_orders_24 : decode cX17_orders 24 = .ok (.getfield 1, 3) := dk_180 0 1 (dk_at dksX17_orders_1 0 rfl rfl)
theorem dX17_orders_27 : decode cX17_orders 27 = .ok (.getfield 17, 3) := dk_180 0 17 (dk_at dksX17_orders_1 3 rfl rfl)
theorem dX17_orders_30 : decode cX17_orders 30 = .ok (.invokevirtual 23, 3) := dk_182 0 23 (dk_at dksX17_orders_1 6 rfl rfl)
theorem dX17_orders_33 : decode cX17_orders 33 = .ok (.if_icmp .ge 23, 3) := dk_162 0 23 (dk_at dksX17_orders_1 9 rfl rfl)
theorem dX17_orders_36 : decode cX17_orders 36 = .ok (.aload_n 0, 1) := dk_42 (dk_at dksX17_orders_1 12 rfl rfl)
theorem dX17_orders_37 : decode cX17_orders 37 = .ok (.bipush 59, 2) := dk_16 59 (dk_at dksX17_orders_1 13 rfl rfl)
theorem dX17_orders_39 : decode cX17_orders 39 = .ok (.invokevirtual 50, 3) := dk_182 0 50 (dk_at dksX17_orders_1 15 rfl rfl)
theorem dX17_orders_42 : decode cX17_orders 42 = .ok (.aload_n 1, 1) := dk_43 (dk_at dksX17_orders_1 18 rfl rfl)
theorem dX17_orders_43 : decode cX17_orders 43 = .ok (.aload_n 0, 1) := dk_42 (dk_at dksX17_orders_1 19 rfl rfl)
theorem dX17_orders_44 : decode cX17_orders 44 = .ok (.invokevirtual 117, 3) := dk_182 0 117 (dk_at dksX17_orders_1 20 rfl rfl)
theorem dX17_orders_47 : decode cX17_orders 47 = .ok (.invokeinterface 121 2, 5) := by decide +kernel
theorem dX17_orders_52 : decode cX17_orders 52 = .ok (.pop, 1) := dk_87 (dk_at dksX17_orders_2 5 rfl rfl)
theorem dX17_orders_53 : decode cX17_orders 53 = .ok (.goto (-34), 3) := dk_167 255 222 (dk_at dksX17_orders_2 6 rfl rfl)
theorem dX17_orders_56 : decode cX17_orders 56 = .ok (.aload_n 1, 1) := dk_43 (dk_at dksX17_orders_2 9 rfl rfl)
theorem dX17_orders_57 : decode cX17_orders 57 = .ok (.areturn, 1) := dk_176 (dk_at dksX17_orders_2 10 rfl rfl)
abbrev cX17_order : ByteArray := prog_11_method_11_code
def yX17_order : MethodName := ⟨RX17, "order", "()LBrassInspector$Order;"⟩
def dkwX17_order_11 : List UInt8 := [42, 16, 32, 182, 0, 50, 187, 0, 91, 89, 43, 28, 42, 182, 0, 93, 183, 0, 104, 176]
abbrev dktX17_order_11 : List UInt8 := dkwX17_order_11 ++ []
def dkwX17_order_10 : List UInt8 := [183, 0, 104, 176, 42, 18, 109, 182, 0, 83, 187, 0, 91, 89, 43, 28, 42, 182, 0, 111, 183, 0, 104, 176]
abbrev dktX17_order_10 : List UInt8 := dkwX17_order_10 ++ dktX17_order_11
def dkwX17_order_9 : List UInt8 := [182, 0, 58, 183, 0, 104, 176, 42, 18, 107, 182, 0, 83, 187, 0, 91, 89, 43, 28, 42, 182, 0, 58]
abbrev dktX17_order_9 : List UInt8 := dkwX17_order_9 ++ dktX17_order_10
def dkwX17_order_8 : List UInt8 := [187, 0, 91, 89, 43, 28, 183, 0, 96, 176, 42, 18, 102, 182, 0, 83, 187, 0, 91, 89, 43, 28, 42]
abbrev dktX17_order_8 : List UInt8 := dkwX17_order_8 ++ dktX17_order_9
def dkwX17_order_7 : List UInt8 := [170, 0, 0, 0, 99, 0, 0, 0, 0, 0, 0, 0, 3, 0, 0, 0, 29, 0, 0, 0, 39, 0, 0, 0, 59, 0, 0, 0, 79]
abbrev dktX17_order_7 : List UInt8 := dkwX17_order_7 ++ dktX17_order_8
def dkwX17_order_6 : List UInt8 := [182, 0, 87, 153, 0, 6, 6, 54, 4, 21, 4]
abbrev dktX17_order_6 : List UInt8 := dkwX17_order_6 ++ dktX17_order_7
def dkwX17_order_5 : List UInt8 := [4, 54, 4, 167, 0, 30, 45, 18, 75, 182, 0, 87, 153, 0, 21, 5, 54, 4, 167, 0, 15, 45, 18, 61]
abbrev dktX17_order_5 : List UInt8 := dkwX17_order_5 ++ dktX17_order_6
def dkwX17_order_4 : List UInt8 := [45, 18, 73, 182, 0, 87, 153, 0, 51, 3, 54, 4, 167, 0, 45, 45, 18, 71, 182, 0, 87, 153, 0, 36]
abbrev dktX17_order_4 : List UInt8 := dkwX17_order_4 ++ dktX17_order_5
def dkwX17_order_3 : List UInt8 := [171, 0, 0, 0, 0, 0, 0, 101, 0, 0, 0, 4, 0, 50, 198, 159, 0, 0, 0, 59, 0, 51, 21, 78, 0, 0, 0, 44, 5, 182, 151, 169, 0, 0, 0, 89, 6, 133, 80, 91, 0, 0, 0, 74]
abbrev dktX17_order_3 : List UInt8 := dkwX17_order_3 ++ dktX17_order_4
def dkwX17_order_2 : List UInt8 := [54, 4, 45, 182, 0, 99]
abbrev dktX17_order_2 : List UInt8 := dkwX17_order_2 ++ dktX17_order_3
def dkwX17_order_1 : List UInt8 := [153, 0, 16, 187, 0, 91, 89, 43, 42, 182, 0, 93, 183, 0, 96, 176, 42, 182, 0, 58, 61, 43, 78, 2]
abbrev dktX17_order_1 : List UInt8 := dkwX17_order_1 ++ dktX17_order_2
def dkwX17_order_0 : List UInt8 := [42, 182, 0, 79, 76, 42, 43, 182, 0, 83, 42, 16, 32, 182, 0, 50, 43, 18, 63, 182, 0, 87]
abbrev dktX17_order_0 : List UInt8 := dkwX17_order_0 ++ dktX17_order_1
theorem dksX17_order_0 : cX17_order.data.toList.drop 0 = dktX17_order_0 := by decide +kernel
theorem dksX17_order_1 : cX17_order.data.toList.drop 22 = dktX17_order_1 := dk_seg dksX17_order_0 22 rfl rfl
theorem dksX17_order_2 : cX17_order.data.toList.drop 46 = dktX17_order_2 := dk_seg dksX17_order_1 24 rfl rfl
theorem dksX17_order_3 : cX17_order.data.toList.drop 52 = dktX17_order_3 := dk_seg dksX17_order_2 6 rfl rfl
theorem dksX17_order_4 : cX17_order.data.toList.drop 96 = dktX17_order_4 := dk_seg dksX17_order_3 44 rfl rfl
theorem dksX17_order_5 : cX17_order.data.toList.drop 120 = dktX17_order_5 := dk_seg dksX17_order_4 24 rfl rfl
theorem dksX17_order_6 : cX17_order.data.toList.drop 144 = dktX17_order_6 := dk_seg dksX17_order_5 24 rfl rfl
theorem dksX17_order_7 : cX17_order.data.toList.drop 155 = dktX17_order_7 := dk_seg dksX17_order_6 11 rfl rfl
theorem dksX17_order_8 : cX17_order.data.toList.drop 184 = dktX17_order_8 := dk_seg dksX17_order_7 29 rfl rfl
theorem dksX17_order_9 : cX17_order.data.toList.drop 207 = dktX17_order_9 := dk_seg dksX17_order_8 23 rfl rfl
theorem dksX17_order_10 : cX17_order.data.toList.drop 230 = dktX17_order_10 := dk_seg dksX17_order_9 23 rfl rfl
theorem dksX17_order_11 : cX17_order.data.toList.drop 254 = dktX17_order_11 := dk_seg dksX17_order_10 24 rfl rfl
theorem dX17_order_0 : decode cX17_order 0 = .ok (.aload_n 0, 1) := dk_42 (dk_at dksX17_order_0 0 rfl rfl)
theorem dX17_order_1 : decode cX17_order 1 = .ok (.invokevirtual 79, 3) := dk_182 0 79 (dk_at dksX17_order_0 1 rfl rfl)
theorem dX17_order_4 : decode cX17_order 4 = .ok (.astore_n 1, 1) := dk_76 (dk_at dksX17_order_0 4 rfl rfl)
theorem dX17_order_5 : decode cX17_order 5 = .ok (.aload_n 0, 1) := dk_42 (dk_at dksX17_order_0 5 rfl rfl)
theorem dX17_order_6 : decode cX17_order 6 = .ok (.aload_n 1, 1) := dk_43 (dk_at dksX17_order_0 6 rfl rfl)
theorem dX17_order_7 : decode cX17_order 7 = .ok (.invokevirtual 83, 3) := dk_182 0 83 (dk_at dksX17_order_0 7 rfl rfl)
theorem dX17_order_10 : decode cX17_order 10 = .ok (.aload_n 0, 1) := dk_42 (dk_at dksX17_order_0 10 rfl rfl)
theorem dX17_order_11 : decode cX17_order 11 = .ok (.bipush 32, 2) := dk_16 32 (dk_at dksX17_order_0 11 rfl rfl)
theorem dX17_order_13 : decode cX17_order 13 = .ok (.invokevirtual 50, 3) := dk_182 0 50 (dk_at dksX17_order_0 13 rfl rfl)
theorem dX17_order_16 : decode cX17_order 16 = .ok (.aload_n 1, 1) := dk_43 (dk_at dksX17_order_0 16 rfl rfl)
theorem dX17_order_17 : decode cX17_order 17 = .ok (.ldc 63, 2) := dk_18 63 (dk_at dksX17_order_0 17 rfl rfl)
theorem dX17_order_19 : decode cX17_order 19 = .ok (.invokevirtual 87, 3) := dk_182 0 87 (dk_at dksX17_order_0 19 rfl rfl)
theorem dX17_order_22 : decode cX17_order 22 = .ok (.ifCond .eq 16, 3) := dk_153 0 16 (dk_at dksX17_order_1 0 rfl rfl)
theorem dX17_order_25 : decode cX17_order 25 = .ok (.new 91, 3) := dk_187 0 91 (dk_at dksX17_order_1 3 rfl rfl)
theorem dX17_order_28 : decode cX17_order 28 = .ok (.dup, 1) := dk_89 (dk_at dksX17_order_1 6 rfl rfl)
theorem dX17_order_29 : decode cX17_order 29 = .ok (.aload_n 1, 1) := dk_43 (dk_at dksX17_order_1 7 rfl rfl)
theorem dX17_order_30 : decode cX17_order 30 = .ok (.aload_n 0, 1) := dk_42 (dk_at dksX17_order_1 8 rfl rfl)
theorem dX17_order_31 : decode cX17_order 31 = .ok (.invokevirtual 93, 3) := dk_182 0 93 (dk_at dksX17_order_1 9 rfl rfl)
theorem dX17_order_34 : decode cX17_order 34 = .ok (.invokespecial 96, 3) := dk_183 0 96 (dk_at dksX17_order_1 12 rfl rfl)
theorem dX17_order_37 : decode cX17_order 37 = .ok (.areturn, 1) := dk_176 (dk_at dksX17_order_1 15 rfl rfl)
theorem dX17_order_38 : decode cX17_order 38 = .ok (.aload_n 0, 1) := dk_42 (dk_at dksX17_order_1 16 rfl rfl)
theorem dX17_order_39 : decode cX17_order 39 = .ok (.invokevirtual 58, 3) := dk_182 0 58 (dk_at dksX17_order_1 17 rfl rfl)
theorem dX17_order_42 : decode cX17_order 42 = .ok (.istore_n 2, 1) := dk_61 (dk_at dksX17_order_1 20 rfl rfl)
theorem dX17_order_43 : decode cX17_order 43 = .ok (.aload_n 1, 1) := dk_43 (dk_at dksX17_order_1 21 rfl rfl)
theorem dX17_order_44 : decode cX17_order 44 = .ok (.astore_n 3, 1) := dk_78 (dk_at dksX17_order_1 22 rfl rfl)
theorem dX17_order_45 : decode cX17_order 45 = .ok (.iconst (-1), 1) := dk_2 (dk_at dksX17_order_1 23 rfl rfl)
theorem dX17_order_46 : decode cX17_order 46 = .ok (.istore 4, 2) := dk_54 4 (dk_at dksX17_order_2 0 rfl rfl)
theorem dX17_order_48 : decode cX17_order 48 = .ok (.aload_n 3, 1) := dk_45 (dk_at dksX17_order_2 2 rfl rfl)
theorem dX17_order_49 : decode cX17_order 49 = .ok (.invokevirtual 99, 3) := dk_182 0 99 (dk_at dksX17_order_2 3 rfl rfl)
theorem dX17_order_52 : decode cX17_order 52 = .ok (.lookupswitch 101 #[(3327647, 59), (3347790, 44), (95852457, 89), (109400155, 74)], 44) := by decide +kernel
theorem dX17_order_96 : decode cX17_order 96 = .ok (.aload_n 3, 1) := dk_45 (dk_at dksX17_order_4 0 rfl rfl)
theorem dX17_order_97 : decode cX17_order 97 = .ok (.ldc 73, 2) := dk_18 73 (dk_at dksX17_order_4 1 rfl rfl)
theorem dX17_order_99 : decode cX17_order 99 = .ok (.invokevirtual 87, 3) := dk_182 0 87 (dk_at dksX17_order_4 3 rfl rfl)
theorem dX17_order_102 : decode cX17_order 102 = .ok (.ifCond .eq 51, 3) := dk_153 0 51 (dk_at dksX17_order_4 6 rfl rfl)
theorem dX17_order_105 : decode cX17_order 105 = .ok (.iconst 0, 1) := dk_3 (dk_at dksX17_order_4 9 rfl rfl)
theorem dX17_order_106 : decode cX17_order 106 = .ok (.istore 4, 2) := dk_54 4 (dk_at dksX17_order_4 10 rfl rfl)
theorem dX17_order_108 : decode cX17_order 108 = .ok (.goto 45, 3) := dk_167 0 45 (dk_at dksX17_order_4 12 rfl rfl)
theorem dX17_order_111 : decode cX17_order 111 = .ok (.aload_n 3, 1) := dk_45 (dk_at dksX17_order_4 15 rfl rfl)
theorem dX17_order_112 : decode cX17_order 112 = .ok (.ldc 71, 2) := dk_18 71 (dk_at dksX17_order_4 16 rfl rfl)
theorem dX17_order_114 : decode cX17_order 114 = .ok (.invokevirtual 87, 3) := dk_182 0 87 (dk_at dksX17_order_4 18 rfl rfl)
theorem dX17_order_117 : decode cX17_order 117 = .ok (.ifCond .eq 36, 3) := dk_153 0 36 (dk_at dksX17_order_4 21 rfl rfl)
theorem dX17_order_120 : decode cX17_order 120 = .ok (.iconst 1, 1) := dk_4 (dk_at dksX17_order_5 0 rfl rfl)
theorem dX17_order_121 : decode cX17_order 121 = .ok (.istore 4, 2) := dk_54 4 (dk_at dksX17_order_5 1 rfl rfl)
theorem dX17_order_123 : decode cX17_order 123 = .ok (.goto 30, 3) := dk_167 0 30 (dk_at dksX17_order_5 3 rfl rfl)
theorem dX17_order_126 : decode cX17_order 126 = .ok (.aload_n 3, 1) := dk_45 (dk_at dksX17_order_5 6 rfl rfl)
theorem dX17_order_127 : decode cX17_order 127 = .ok (.ldc 75, 2) := dk_18 75 (dk_at dksX17_order_5 7 rfl rfl)
theorem dX17_order_129 : decode cX17_order 129 = .ok (.invokevirtual 87, 3) := dk_182 0 87 (dk_at dksX17_order_5 9 rfl rfl)
theorem dX17_order_132 : decode cX17_order 132 = .ok (.ifCond .eq 21, 3) := dk_153 0 21 (dk_at dksX17_order_5 12 rfl rfl)
theorem dX17_order_135 : decode cX17_order 135 = .ok (.iconst 2, 1) := dk_5 (dk_at dksX17_order_5 15 rfl rfl)
theorem dX17_order_136 : decode cX17_order 136 = .ok (.istore 4, 2) := dk_54 4 (dk_at dksX17_order_5 16 rfl rfl)
theorem dX17_order_138 : decode cX17_order 138 = .ok (.goto 15, 3) := dk_167 0 15 (dk_at dksX17_order_5 18 rfl rfl)
theorem dX17_order_141 : decode cX17_order 141 = .ok (.aload_n 3, 1) := dk_45 (dk_at dksX17_order_5 21 rfl rfl)
theorem dX17_order_142 : decode cX17_order 142 = .ok (.ldc 61, 2) := dk_18 61 (dk_at dksX17_order_5 22 rfl rfl)
theorem dX17_order_144 : decode cX17_order 144 = .ok (.invokevirtual 87, 3) := dk_182 0 87 (dk_at dksX17_order_6 0 rfl rfl)
theorem dX17_order_147 : decode cX17_order 147 = .ok (.ifCond .eq 6, 3) := dk_153 0 6 (dk_at dksX17_order_6 3 rfl rfl)
theorem dX17_order_150 : decode cX17_order 150 = .ok (.iconst 3, 1) := dk_6 (dk_at dksX17_order_6 6 rfl rfl)
theorem dX17_order_151 : decode cX17_order 151 = .ok (.istore 4, 2) := dk_54 4 (dk_at dksX17_order_6 7 rfl rfl)
theorem dX17_order_153 : decode cX17_order 153 = .ok (.iload 4, 2) := dk_21 4 (dk_at dksX17_order_6 9 rfl rfl)
theorem dX17_order_155 : decode cX17_order 155 = .ok (.tableswitch 99 0 3 #[29, 39, 59, 79], 29) := by decide +kernel
theorem dX17_order_184 : decode cX17_order 184 = .ok (.new 91, 3) := dk_187 0 91 (dk_at dksX17_order_8 0 rfl rfl)
theorem dX17_order_187 : decode cX17_order 187 = .ok (.dup, 1) := dk_89 (dk_at dksX17_order_8 3 rfl rfl)
theorem dX17_order_188 : decode cX17_order 188 = .ok (.aload_n 1, 1) := dk_43 (dk_at dksX17_order_8 4 rfl rfl)
theorem dX17_order_189 : decode cX17_order 189 = .ok (.iload_n 2, 1) := dk_28 (dk_at dksX17_order_8 5 rfl rfl)
theorem dX17_order_190 : decode cX17_order 190 = .ok (.invokespecial 96, 3) := dk_183 0 96 (dk_at dksX17_order_8 6 rfl rfl)
theorem dX17_order_193 : decode cX17_order 193 = .ok (.areturn, 1) := dk_176 (dk_at dksX17_order_8 9 rfl rfl)
theorem dX17_order_194 : decode cX17_order 194 = .ok (.aload_n 0, 1) := dk_42 (dk_at dksX17_order_8 10 rfl rfl)
theorem dX17_order_195 : decode cX17_order 195 = .ok (.ldc 102, 2) := dk_18 102 (dk_at dksX17_order_8 11 rfl rfl)
theorem dX17_order_197 : decode cX17_order 197 = .ok (.invokevirtual 83, 3) := dk_182 0 83 (dk_at dksX17_order_8 13 rfl rfl)
theorem dX17_order_200 : decode cX17_order 200 = .ok (.new 91, 3) := dk_187 0 91 (dk_at dksX17_order_8 16 rfl rfl)
theorem dX17_order_203 : decode cX17_order 203 = .ok (.dup, 1) := dk_89 (dk_at dksX17_order_8 19 rfl rfl)
theorem dX17_order_204 : decode cX17_order 204 = .ok (.aload_n 1, 1) := dk_43 (dk_at dksX17_order_8 20 rfl rfl)
theorem dX17_order_205 : decode cX17_order 205 = .ok (.iload_n 2, 1) := dk_28 (dk_at dksX17_order_8 21 rfl rfl)
theorem dX17_order_206 : decode cX17_order 206 = .ok (.aload_n 0, 1) := dk_42 (dk_at dksX17_order_8 22 rfl rfl)
theorem dX17_order_207 : decode cX17_order 207 = .ok (.invokevirtual 58, 3) := dk_182 0 58 (dk_at dksX17_order_9 0 rfl rfl)
theorem dX17_order_210 : decode cX17_order 210 = .ok (.invokespecial 104, 3) := dk_183 0 104 (dk_at dksX17_order_9 3 rfl rfl)
theorem dX17_order_213 : decode cX17_order 213 = .ok (.areturn, 1) := dk_176 (dk_at dksX17_order_9 6 rfl rfl)
theorem dX17_order_214 : decode cX17_order 214 = .ok (.aload_n 0, 1) := dk_42 (dk_at dksX17_order_9 7 rfl rfl)
theorem dX17_order_215 : decode cX17_order 215 = .ok (.ldc 107, 2) := dk_18 107 (dk_at dksX17_order_9 8 rfl rfl)
theorem dX17_order_217 : decode cX17_order 217 = .ok (.invokevirtual 83, 3) := dk_182 0 83 (dk_at dksX17_order_9 10 rfl rfl)
theorem dX17_order_220 : decode cX17_order 220 = .ok (.new 91, 3) := dk_187 0 91 (dk_at dksX17_order_9 13 rfl rfl)
theorem dX17_order_223 : decode cX17_order 223 = .ok (.dup, 1) := dk_89 (dk_at dksX17_order_9 16 rfl rfl)
theorem dX17_order_224 : decode cX17_order 224 = .ok (.aload_n 1, 1) := dk_43 (dk_at dksX17_order_9 17 rfl rfl)
theorem dX17_order_225 : decode cX17_order 225 = .ok (.iload_n 2, 1) := dk_28 (dk_at dksX17_order_9 18 rfl rfl)
theorem dX17_order_226 : decode cX17_order 226 = .ok (.aload_n 0, 1) := dk_42 (dk_at dksX17_order_9 19 rfl rfl)
theorem dX17_order_227 : decode cX17_order 227 = .ok (.invokevirtual 58, 3) := dk_182 0 58 (dk_at dksX17_order_9 20 rfl rfl)
theorem dX17_order_230 : decode cX17_order 230 = .ok (.invokespecial 104, 3) := dk_183 0 104 (dk_at dksX17_order_10 0 rfl rfl)
theorem dX17_order_233 : decode cX17_order 233 = .ok (.areturn, 1) := dk_176 (dk_at dksX17_order_10 3 rfl rfl)
theorem dX17_order_234 : decode cX17_order 234 = .ok (.aload_n 0, 1) := dk_42 (dk_at dksX17_order_10 4 rfl rfl)
theorem dX17_order_235 : decode cX17_order 235 = .ok (.ldc 109, 2) := dk_18 109 (dk_at dksX17_order_10 5 rfl rfl)
theorem dX17_order_237 : decode cX17_order 237 = .ok (.invokevirtual 83, 3) := dk_182 0 83 (dk_at dksX17_order_10 7 rfl rfl)
theorem dX17_order_240 : decode cX17_order 240 = .ok (.new 91, 3) := dk_187 0 91 (dk_at dksX17_order_10 10 rfl rfl)
theorem dX17_order_243 : decode cX17_order 243 = .ok (.dup, 1) := dk_89 (dk_at dksX17_order_10 13 rfl rfl)
theorem dX17_order_244 : decode cX17_order 244 = .ok (.aload_n 1, 1) := dk_43 (dk_at dksX17_order_10 14 rfl rfl)
theorem dX17_order_245 : decode cX17_order 245 = .ok (.iload_n 2, 1) := dk_28 (dk_at dksX17_order_10 15 rfl rfl)
theorem dX17_order_246 : decode cX17_order 246 = .ok (.aload_n 0, 1) := dk_42 (dk_at dksX17_order_10 16 rfl rfl)
theorem dX17_order_247 : decode cX17_order 247 = .ok (.invokevirtual 111, 3) := dk_182 0 111 (dk_at dksX17_order_10 17 rfl rfl)
theorem dX17_order_250 : decode cX17_order 250 = .ok (.invokespecial 104, 3) := dk_183 0 104 (dk_at dksX17_order_10 20 rfl rfl)
theorem dX17_order_253 : decode cX17_order 253 = .ok (.areturn, 1) := dk_176 (dk_at dksX17_order_10 23 rfl rfl)
theorem dX17_order_254 : decode cX17_order 254 = .ok (.aload_n 0, 1) := dk_42 (dk_at dksX17_order_11 0 rfl rfl)
theorem dX17_order_255 : decode cX17_order 255 = .ok (.bipush 32, 2) := dk_16 32 (dk_at dksX17_order_11 1 rfl rfl)
theorem dX17_order_257 : decode cX17_order 257 = .ok (.invokevirtual 50, 3) := dk_182 0 50 (dk_at dksX17_order_11 3 rfl rfl)
theorem dX17_order_260 : decode cX17_order 260 = .ok (.new 91, 3) := dk_187 0 91 (dk_at dksX17_order_11 6 rfl rfl)
theorem dX17_order_263 : decode cX17_order 263 = .ok (.dup, 1) := dk_89 (dk_at dksX17_order_11 9 rfl rfl)
theorem dX17_order_264 : decode cX17_order 264 = .ok (.aload_n 1, 1) := dk_43 (dk_at dksX17_order_11 10 rfl rfl)
theorem dX17_order_265 : decode cX17_order 265 = .ok (.iload_n 2, 1) := dk_28 (dk_at dksX17_order_11 11 rfl rfl)
theorem dX17_order_266 : decode cX17_order 266 = .ok (.aload_n 0, 1) := dk_42 (dk_at dksX17_order_11 12 rfl rfl)
theorem dX17_order_267 : decode cX17_order 267 = .ok (.invokevirtual 93, 3) := dk_182 0 93 (dk_at dksX17_order_11 13 rfl rfl)
theorem dX17_order_270 : decode cX17_order 270 = .ok (.invokespecial 104, 3) := dk_183 0 104 (dk_at dksX17_order_11 16 rfl rfl)
theorem dX17_order_273 : decode cX17_order 273 = .ok (.areturn, 1) := dk_176 (dk_at dksX17_order_11 19 rfl rfl)
abbrev cX17_word : ByteArray := prog_11_method_9_code
def yX17_word : MethodName := ⟨RX17, "word", "()Ljava/lang/String;"⟩
def dkwX17_word_7 : List UInt8 := [167, 0, 5, 18, 77, 176]
abbrev dktX17_word_7 : List UInt8 := dkwX17_word_7 ++ []
def dkwX17_word_6 : List UInt8 := [167, 0, 27, 27, 16, 109, 160, 0, 8, 18, 73, 167, 0, 16, 27, 16, 115, 160, 0, 8, 18, 75]
abbrev dktX17_word_6 : List UInt8 := dkwX17_word_6 ++ dktX17_word_7
def dkwX17_word_5 : List UInt8 := [27, 182, 0, 67, 155, 0, 7, 4, 167, 0, 4, 3, 182, 0, 42, 27, 16, 108, 160, 0, 8, 18, 71]
abbrev dktX17_word_5 : List UInt8 := dkwX17_word_5 ++ dktX17_word_6
def dkwX17_word_4 : List UInt8 := [167, 0, 4, 3, 182, 0, 42, 28, 16, 114, 160, 0, 8, 18, 61, 167, 0, 5, 18, 63, 176, 42, 18, 65]
abbrev dktX17_word_4 : List UInt8 := dkwX17_word_4 ++ dktX17_word_5
def dkwX17_word_3 : List UInt8 := [167, 0, 4, 4, 96, 181, 0, 13, 42, 28, 16, 114, 159, 0, 9, 28, 16, 97, 160, 0, 7, 4]
abbrev dktX17_word_3 : List UInt8 := dkwX17_word_3 ++ dktX17_word_4
def dkwX17_word_2 : List UInt8 := [167, 0, 5, 16, 10, 61, 42, 89, 180, 0, 13, 28, 16, 114, 159, 0, 9, 28, 16, 97, 160, 0, 7, 3]
abbrev dktX17_word_2 : List UInt8 := dkwX17_word_2 ++ dktX17_word_3
def dkwX17_word_1 : List UInt8 := [182, 0, 23, 162, 0, 22, 42, 180, 0, 1, 180, 0, 17, 42, 180, 0, 13, 4, 96, 182, 0, 29]
abbrev dktX17_word_1 : List UInt8 := dkwX17_word_1 ++ dktX17_word_2
def dkwX17_word_0 : List UInt8 := [42, 182, 0, 38, 60, 27, 16, 100, 160, 0, 105, 42, 180, 0, 13, 4, 96, 42, 180, 0, 1, 180, 0, 17]
abbrev dktX17_word_0 : List UInt8 := dkwX17_word_0 ++ dktX17_word_1
theorem dksX17_word_0 : cX17_word.data.toList.drop 0 = dktX17_word_0 := by decide +kernel
theorem dksX17_word_1 : cX17_word.data.toList.drop 24 = dktX17_word_1 := dk_seg dksX17_word_0 24 rfl rfl
theorem dksX17_word_2 : cX17_word.data.toList.drop 46 = dktX17_word_2 := dk_seg dksX17_word_1 22 rfl rfl
theorem dksX17_word_3 : cX17_word.data.toList.drop 70 = dktX17_word_3 := dk_seg dksX17_word_2 24 rfl rfl
theorem dksX17_word_4 : cX17_word.data.toList.drop 92 = dktX17_word_4 := dk_seg dksX17_word_3 22 rfl rfl
theorem dksX17_word_5 : cX17_word.data.toList.drop 116 = dktX17_word_5 := dk_seg dksX17_word_4 24 rfl rfl
theorem dksX17_word_6 : cX17_word.data.toList.drop 139 = dktX17_word_6 := dk_seg dksX17_word_5 23 rfl rfl
theorem dksX17_word_7 : cX17_word.data.toList.drop 161 = dktX17_word_7 := dk_seg dksX17_word_6 22 rfl rfl
theorem dX17_word_0 : decode cX17_word 0 = .ok (.aload_n 0, 1) := dk_42 (dk_at dksX17_word_0 0 rfl rfl)
theorem dX17_word_1 : decode cX17_word 1 = .ok (.invokevirtual 38, 3) := dk_182 0 38 (dk_at dksX17_word_0 1 rfl rfl)
theorem dX17_word_4 : decode cX17_word 4 = .ok (.istore_n 1, 1) := dk_60 (dk_at dksX17_word_0 4 rfl rfl)
theorem dX17_word_5 : decode cX17_word 5 = .ok (.iload_n 1, 1) := dk_27 (dk_at dksX17_word_0 5 rfl rfl)
theorem dX17_word_6 : decode cX17_word 6 = .ok (.bipush 100, 2) := dk_16 100 (dk_at dksX17_word_0 6 rfl rfl)
theorem dX17_word_8 : decode cX17_word 8 = .ok (.if_icmp .ne 105, 3) := dk_160 0 105 (dk_at dksX17_word_0 8 rfl rfl)
theorem dX17_word_11 : decode cX17_word 11 = .ok (.aload_n 0, 1) := dk_42 (dk_at dksX17_word_0 11 rfl rfl)
theorem dX17_word_12 : decode cX17_word 12 = .ok (.getfield 13, 3) := dk_180 0 13 (dk_at dksX17_word_0 12 rfl rfl)
theorem dX17_word_15 : decode cX17_word 15 = .ok (.iconst 1, 1) := dk_4 (dk_at dksX17_word_0 15 rfl rfl)
theorem dX17_word_16 : decode cX17_word 16 = .ok (.iadd, 1) := dk_96 (dk_at dksX17_word_0 16 rfl rfl)
theorem dX17_word_17 : decode cX17_word 17 = .ok (.aload_n 0, 1) := dk_42 (dk_at dksX17_word_0 17 rfl rfl)
theorem dX17_word_18 : decode cX17_word 18 = .ok (.getfield 1, 3) := dk_180 0 1 (dk_at dksX17_word_0 18 rfl rfl)
theorem dX17_word_21 : decode cX17_word 21 = .ok (.getfield 17, 3) := dk_180 0 17 (dk_at dksX17_word_0 21 rfl rfl)
theorem dX17_word_24 : decode cX17_word 24 = .ok (.invokevirtual 23, 3) := dk_182 0 23 (dk_at dksX17_word_1 0 rfl rfl)
theorem dX17_word_27 : decode cX17_word 27 = .ok (.if_icmp .ge 22, 3) := dk_162 0 22 (dk_at dksX17_word_1 3 rfl rfl)
theorem dX17_word_30 : decode cX17_word 30 = .ok (.aload_n 0, 1) := dk_42 (dk_at dksX17_word_1 6 rfl rfl)
theorem dX17_word_31 : decode cX17_word 31 = .ok (.getfield 1, 3) := dk_180 0 1 (dk_at dksX17_word_1 7 rfl rfl)
theorem dX17_word_34 : decode cX17_word 34 = .ok (.getfield 17, 3) := dk_180 0 17 (dk_at dksX17_word_1 10 rfl rfl)
theorem dX17_word_37 : decode cX17_word 37 = .ok (.aload_n 0, 1) := dk_42 (dk_at dksX17_word_1 13 rfl rfl)
theorem dX17_word_38 : decode cX17_word 38 = .ok (.getfield 13, 3) := dk_180 0 13 (dk_at dksX17_word_1 14 rfl rfl)
theorem dX17_word_41 : decode cX17_word 41 = .ok (.iconst 1, 1) := dk_4 (dk_at dksX17_word_1 17 rfl rfl)
theorem dX17_word_42 : decode cX17_word 42 = .ok (.iadd, 1) := dk_96 (dk_at dksX17_word_1 18 rfl rfl)
theorem dX17_word_43 : decode cX17_word 43 = .ok (.invokevirtual 29, 3) := dk_182 0 29 (dk_at dksX17_word_1 19 rfl rfl)
theorem dX17_word_46 : decode cX17_word 46 = .ok (.goto 5, 3) := dk_167 0 5 (dk_at dksX17_word_2 0 rfl rfl)
theorem dX17_word_49 : decode cX17_word 49 = .ok (.bipush 10, 2) := dk_16 10 (dk_at dksX17_word_2 3 rfl rfl)
theorem dX17_word_51 : decode cX17_word 51 = .ok (.istore_n 2, 1) := dk_61 (dk_at dksX17_word_2 5 rfl rfl)
theorem dX17_word_52 : decode cX17_word 52 = .ok (.aload_n 0, 1) := dk_42 (dk_at dksX17_word_2 6 rfl rfl)
theorem dX17_word_53 : decode cX17_word 53 = .ok (.dup, 1) := dk_89 (dk_at dksX17_word_2 7 rfl rfl)
theorem dX17_word_54 : decode cX17_word 54 = .ok (.getfield 13, 3) := dk_180 0 13 (dk_at dksX17_word_2 8 rfl rfl)
theorem dX17_word_57 : decode cX17_word 57 = .ok (.iload_n 2, 1) := dk_28 (dk_at dksX17_word_2 11 rfl rfl)
theorem dX17_word_58 : decode cX17_word 58 = .ok (.bipush 114, 2) := dk_16 114 (dk_at dksX17_word_2 12 rfl rfl)
theorem dX17_word_60 : decode cX17_word 60 = .ok (.if_icmp .eq 9, 3) := dk_159 0 9 (dk_at dksX17_word_2 14 rfl rfl)
theorem dX17_word_63 : decode cX17_word 63 = .ok (.iload_n 2, 1) := dk_28 (dk_at dksX17_word_2 17 rfl rfl)
theorem dX17_word_64 : decode cX17_word 64 = .ok (.bipush 97, 2) := dk_16 97 (dk_at dksX17_word_2 18 rfl rfl)
theorem dX17_word_66 : decode cX17_word 66 = .ok (.if_icmp .ne 7, 3) := dk_160 0 7 (dk_at dksX17_word_2 20 rfl rfl)
theorem dX17_word_69 : decode cX17_word 69 = .ok (.iconst 0, 1) := dk_3 (dk_at dksX17_word_2 23 rfl rfl)
theorem dX17_word_70 : decode cX17_word 70 = .ok (.goto 4, 3) := dk_167 0 4 (dk_at dksX17_word_3 0 rfl rfl)
theorem dX17_word_73 : decode cX17_word 73 = .ok (.iconst 1, 1) := dk_4 (dk_at dksX17_word_3 3 rfl rfl)
theorem dX17_word_74 : decode cX17_word 74 = .ok (.iadd, 1) := dk_96 (dk_at dksX17_word_3 4 rfl rfl)
theorem dX17_word_75 : decode cX17_word 75 = .ok (.putfield 13, 3) := dk_181 0 13 (dk_at dksX17_word_3 5 rfl rfl)
theorem dX17_word_78 : decode cX17_word 78 = .ok (.aload_n 0, 1) := dk_42 (dk_at dksX17_word_3 8 rfl rfl)
theorem dX17_word_79 : decode cX17_word 79 = .ok (.iload_n 2, 1) := dk_28 (dk_at dksX17_word_3 9 rfl rfl)
theorem dX17_word_80 : decode cX17_word 80 = .ok (.bipush 114, 2) := dk_16 114 (dk_at dksX17_word_3 10 rfl rfl)
theorem dX17_word_82 : decode cX17_word 82 = .ok (.if_icmp .eq 9, 3) := dk_159 0 9 (dk_at dksX17_word_3 12 rfl rfl)
theorem dX17_word_85 : decode cX17_word 85 = .ok (.iload_n 2, 1) := dk_28 (dk_at dksX17_word_3 15 rfl rfl)
theorem dX17_word_86 : decode cX17_word 86 = .ok (.bipush 97, 2) := dk_16 97 (dk_at dksX17_word_3 16 rfl rfl)
theorem dX17_word_88 : decode cX17_word 88 = .ok (.if_icmp .ne 7, 3) := dk_160 0 7 (dk_at dksX17_word_3 18 rfl rfl)
theorem dX17_word_91 : decode cX17_word 91 = .ok (.iconst 1, 1) := dk_4 (dk_at dksX17_word_3 21 rfl rfl)
theorem dX17_word_92 : decode cX17_word 92 = .ok (.goto 4, 3) := dk_167 0 4 (dk_at dksX17_word_4 0 rfl rfl)
theorem dX17_word_95 : decode cX17_word 95 = .ok (.iconst 0, 1) := dk_3 (dk_at dksX17_word_4 3 rfl rfl)
theorem dX17_word_96 : decode cX17_word 96 = .ok (.invokevirtual 42, 3) := dk_182 0 42 (dk_at dksX17_word_4 4 rfl rfl)
theorem dX17_word_99 : decode cX17_word 99 = .ok (.iload_n 2, 1) := dk_28 (dk_at dksX17_word_4 7 rfl rfl)
theorem dX17_word_100 : decode cX17_word 100 = .ok (.bipush 114, 2) := dk_16 114 (dk_at dksX17_word_4 8 rfl rfl)
theorem dX17_word_102 : decode cX17_word 102 = .ok (.if_icmp .ne 8, 3) := dk_160 0 8 (dk_at dksX17_word_4 10 rfl rfl)
theorem dX17_word_105 : decode cX17_word 105 = .ok (.ldc 61, 2) := dk_18 61 (dk_at dksX17_word_4 13 rfl rfl)
theorem dX17_word_107 : decode cX17_word 107 = .ok (.goto 5, 3) := dk_167 0 5 (dk_at dksX17_word_4 15 rfl rfl)
theorem dX17_word_110 : decode cX17_word 110 = .ok (.ldc 63, 2) := dk_18 63 (dk_at dksX17_word_4 18 rfl rfl)
theorem dX17_word_112 : decode cX17_word 112 = .ok (.areturn, 1) := dk_176 (dk_at dksX17_word_4 20 rfl rfl)
theorem dX17_word_113 : decode cX17_word 113 = .ok (.aload_n 0, 1) := dk_42 (dk_at dksX17_word_4 21 rfl rfl)
theorem dX17_word_114 : decode cX17_word 114 = .ok (.ldc 65, 2) := dk_18 65 (dk_at dksX17_word_4 22 rfl rfl)
theorem dX17_word_116 : decode cX17_word 116 = .ok (.iload_n 1, 1) := dk_27 (dk_at dksX17_word_5 0 rfl rfl)
theorem dX17_word_117 : decode cX17_word 117 = .ok (.invokevirtual 67, 3) := dk_182 0 67 (dk_at dksX17_word_5 1 rfl rfl)
theorem dX17_word_120 : decode cX17_word 120 = .ok (.ifCond .lt 7, 3) := dk_155 0 7 (dk_at dksX17_word_5 4 rfl rfl)
theorem dX17_word_123 : decode cX17_word 123 = .ok (.iconst 1, 1) := dk_4 (dk_at dksX17_word_5 7 rfl rfl)
theorem dX17_word_124 : decode cX17_word 124 = .ok (.goto 4, 3) := dk_167 0 4 (dk_at dksX17_word_5 8 rfl rfl)
theorem dX17_word_127 : decode cX17_word 127 = .ok (.iconst 0, 1) := dk_3 (dk_at dksX17_word_5 11 rfl rfl)
theorem dX17_word_128 : decode cX17_word 128 = .ok (.invokevirtual 42, 3) := dk_182 0 42 (dk_at dksX17_word_5 12 rfl rfl)
theorem dX17_word_131 : decode cX17_word 131 = .ok (.iload_n 1, 1) := dk_27 (dk_at dksX17_word_5 15 rfl rfl)
theorem dX17_word_132 : decode cX17_word 132 = .ok (.bipush 108, 2) := dk_16 108 (dk_at dksX17_word_5 16 rfl rfl)
theorem dX17_word_134 : decode cX17_word 134 = .ok (.if_icmp .ne 8, 3) := dk_160 0 8 (dk_at dksX17_word_5 18 rfl rfl)
theorem dX17_word_137 : decode cX17_word 137 = .ok (.ldc 71, 2) := dk_18 71 (dk_at dksX17_word_5 21 rfl rfl)
theorem dX17_word_139 : decode cX17_word 139 = .ok (.goto 27, 3) := dk_167 0 27 (dk_at dksX17_word_6 0 rfl rfl)
theorem dX17_word_142 : decode cX17_word 142 = .ok (.iload_n 1, 1) := dk_27 (dk_at dksX17_word_6 3 rfl rfl)
theorem dX17_word_143 : decode cX17_word 143 = .ok (.bipush 109, 2) := dk_16 109 (dk_at dksX17_word_6 4 rfl rfl)
theorem dX17_word_145 : decode cX17_word 145 = .ok (.if_icmp .ne 8, 3) := dk_160 0 8 (dk_at dksX17_word_6 6 rfl rfl)
theorem dX17_word_148 : decode cX17_word 148 = .ok (.ldc 73, 2) := dk_18 73 (dk_at dksX17_word_6 9 rfl rfl)
theorem dX17_word_150 : decode cX17_word 150 = .ok (.goto 16, 3) := dk_167 0 16 (dk_at dksX17_word_6 11 rfl rfl)
theorem dX17_word_153 : decode cX17_word 153 = .ok (.iload_n 1, 1) := dk_27 (dk_at dksX17_word_6 14 rfl rfl)
theorem dX17_word_154 : decode cX17_word 154 = .ok (.bipush 115, 2) := dk_16 115 (dk_at dksX17_word_6 15 rfl rfl)
theorem dX17_word_156 : decode cX17_word 156 = .ok (.if_icmp .ne 8, 3) := dk_160 0 8 (dk_at dksX17_word_6 17 rfl rfl)
theorem dX17_word_159 : decode cX17_word 159 = .ok (.ldc 75, 2) := dk_18 75 (dk_at dksX17_word_6 20 rfl rfl)
theorem dX17_word_161 : decode cX17_word 161 = .ok (.goto 5, 3) := dk_167 0 5 (dk_at dksX17_word_7 0 rfl rfl)
theorem dX17_word_164 : decode cX17_word 164 = .ok (.ldc 77, 2) := dk_18 77 (dk_at dksX17_word_7 3 rfl rfl)
theorem dX17_word_166 : decode cX17_word 166 = .ok (.areturn, 1) := dk_176 (dk_at dksX17_word_7 5 rfl rfl)
abbrev cX17_here : ByteArray := prog_11_method_2_code
def yX17_here : MethodName := ⟨RX17, "here", "()C"⟩
def dkwX17_here_1 : List UInt8 := [42, 180, 0, 13, 182, 0, 29, 167, 0, 5, 16, 10, 172]
abbrev dktX17_here_1 : List UInt8 := dkwX17_here_1 ++ []
def dkwX17_here_0 : List UInt8 := [42, 180, 0, 13, 42, 180, 0, 1, 180, 0, 17, 182, 0, 23, 162, 0, 20, 42, 180, 0, 1, 180, 0, 17]
abbrev dktX17_here_0 : List UInt8 := dkwX17_here_0 ++ dktX17_here_1
theorem dksX17_here_0 : cX17_here.data.toList.drop 0 = dktX17_here_0 := by decide +kernel
theorem dksX17_here_1 : cX17_here.data.toList.drop 24 = dktX17_here_1 := dk_seg dksX17_here_0 24 rfl rfl
theorem dX17_here_0 : decode cX17_here 0 = .ok (.aload_n 0, 1) := dk_42 (dk_at dksX17_here_0 0 rfl rfl)
theorem dX17_here_1 : decode cX17_here 1 = .ok (.getfield 13, 3) := dk_180 0 13 (dk_at dksX17_here_0 1 rfl rfl)
theorem dX17_here_4 : decode cX17_here 4 = .ok (.aload_n 0, 1) := dk_42 (dk_at dksX17_here_0 4 rfl rfl)
theorem dX17_here_5 : decode cX17_here 5 = .ok (.getfield 1, 3) := dk_180 0 1 (dk_at dksX17_here_0 5 rfl rfl)
theorem dX17_here_8 : decode cX17_here 8 = .ok (.getfield 17, 3) := dk_180 0 17 (dk_at dksX17_here_0 8 rfl rfl)
theorem dX17_here_11 : decode cX17_here 11 = .ok (.invokevirtual 23, 3) := dk_182 0 23 (dk_at dksX17_here_0 11 rfl rfl)
theorem dX17_here_14 : decode cX17_here 14 = .ok (.if_icmp .ge 20, 3) := dk_162 0 20 (dk_at dksX17_here_0 14 rfl rfl)
theorem dX17_here_17 : decode cX17_here 17 = .ok (.aload_n 0, 1) := dk_42 (dk_at dksX17_here_0 17 rfl rfl)
theorem dX17_here_18 : decode cX17_here 18 = .ok (.getfield 1, 3) := dk_180 0 1 (dk_at dksX17_here_0 18 rfl rfl)
theorem dX17_here_21 : decode cX17_here 21 = .ok (.getfield 17, 3) := dk_180 0 17 (dk_at dksX17_here_0 21 rfl rfl)
theorem dX17_here_24 : decode cX17_here 24 = .ok (.aload_n 0, 1) := dk_42 (dk_at dksX17_here_1 0 rfl rfl)
theorem dX17_here_25 : decode cX17_here 25 = .ok (.getfield 13, 3) := dk_180 0 13 (dk_at dksX17_here_1 1 rfl rfl)
theorem dX17_here_28 : decode cX17_here 28 = .ok (.invokevirtual 29, 3) := dk_182 0 29 (dk_at dksX17_here_1 4 rfl rfl)
theorem dX17_here_31 : decode cX17_here 31 = .ok (.goto 5, 3) := dk_167 0 5 (dk_at dksX17_here_1 7 rfl rfl)
theorem dX17_here_34 : decode cX17_here 34 = .ok (.bipush 10, 2) := dk_16 10 (dk_at dksX17_here_1 10 rfl rfl)
theorem dX17_here_36 : decode cX17_here 36 = .ok (.ireturn, 1) := dk_172 (dk_at dksX17_here_1 12 rfl rfl)
abbrev cX17_need : ByteArray := prog_11_method_3_code
def yX17_need : MethodName := ⟨RX17, "need", "(Z)V"⟩
def dkwX17_need_0 : List UInt8 := [27, 154, 0, 15, 187, 0, 33, 89, 42, 180, 0, 13, 183, 0, 35, 191, 177]
abbrev dktX17_need_0 : List UInt8 := dkwX17_need_0 ++ []
theorem dksX17_need_0 : cX17_need.data.toList.drop 0 = dktX17_need_0 := by decide +kernel
theorem dX17_need_0 : decode cX17_need 0 = .ok (.iload_n 1, 1) := dk_27 (dk_at dksX17_need_0 0 rfl rfl)
theorem dX17_need_1 : decode cX17_need 1 = .ok (.ifCond .ne 15, 3) := dk_154 0 15 (dk_at dksX17_need_0 1 rfl rfl)
theorem dX17_need_4 : decode cX17_need 4 = .ok (.new 33, 3) := dk_187 0 33 (dk_at dksX17_need_0 4 rfl rfl)
theorem dX17_need_7 : decode cX17_need 7 = .ok (.dup, 1) := dk_89 (dk_at dksX17_need_0 7 rfl rfl)
theorem dX17_need_8 : decode cX17_need 8 = .ok (.aload_n 0, 1) := dk_42 (dk_at dksX17_need_0 8 rfl rfl)
theorem dX17_need_9 : decode cX17_need 9 = .ok (.getfield 13, 3) := dk_180 0 13 (dk_at dksX17_need_0 9 rfl rfl)
theorem dX17_need_12 : decode cX17_need 12 = .ok (.invokespecial 35, 3) := dk_183 0 35 (dk_at dksX17_need_0 12 rfl rfl)
theorem dX17_need_15 : decode cX17_need 15 = .ok (.athrow, 1) := dk_191 (dk_at dksX17_need_0 15 rfl rfl)
theorem dX17_need_16 : decode cX17_need 16 = .ok (.return_, 1) := dk_177 (dk_at dksX17_need_0 16 rfl rfl)
abbrev cX17_takeAll : ByteArray := prog_11_method_5_code
def yX17_takeAll : MethodName := ⟨RX17, "takeAll", "(Ljava/lang/String;)V"⟩
def dkwX17_takeAll_1 : List UInt8 := [167, 255, 236, 177]
abbrev dktX17_takeAll_1 : List UInt8 := dkwX17_takeAll_1 ++ []
def dkwX17_takeAll_0 : List UInt8 := [3, 61, 28, 43, 182, 0, 46, 162, 0, 18, 42, 43, 28, 182, 0, 49, 182, 0, 50, 132, 2, 1]
abbrev dktX17_takeAll_0 : List UInt8 := dkwX17_takeAll_0 ++ dktX17_takeAll_1
theorem dksX17_takeAll_0 : cX17_takeAll.data.toList.drop 0 = dktX17_takeAll_0 := by decide +kernel
theorem dksX17_takeAll_1 : cX17_takeAll.data.toList.drop 22 = dktX17_takeAll_1 := dk_seg dksX17_takeAll_0 22 rfl rfl
theorem dX17_takeAll_0 : decode cX17_takeAll 0 = .ok (.iconst 0, 1) := dk_3 (dk_at dksX17_takeAll_0 0 rfl rfl)
theorem dX17_takeAll_1 : decode cX17_takeAll 1 = .ok (.istore_n 2, 1) := dk_61 (dk_at dksX17_takeAll_0 1 rfl rfl)
theorem dX17_takeAll_2 : decode cX17_takeAll 2 = .ok (.iload_n 2, 1) := dk_28 (dk_at dksX17_takeAll_0 2 rfl rfl)
theorem dX17_takeAll_3 : decode cX17_takeAll 3 = .ok (.aload_n 1, 1) := dk_43 (dk_at dksX17_takeAll_0 3 rfl rfl)
theorem dX17_takeAll_4 : decode cX17_takeAll 4 = .ok (.invokevirtual 46, 3) := dk_182 0 46 (dk_at dksX17_takeAll_0 4 rfl rfl)
theorem dX17_takeAll_7 : decode cX17_takeAll 7 = .ok (.if_icmp .ge 18, 3) := dk_162 0 18 (dk_at dksX17_takeAll_0 7 rfl rfl)
theorem dX17_takeAll_10 : decode cX17_takeAll 10 = .ok (.aload_n 0, 1) := dk_42 (dk_at dksX17_takeAll_0 10 rfl rfl)
theorem dX17_takeAll_11 : decode cX17_takeAll 11 = .ok (.aload_n 1, 1) := dk_43 (dk_at dksX17_takeAll_0 11 rfl rfl)
theorem dX17_takeAll_12 : decode cX17_takeAll 12 = .ok (.iload_n 2, 1) := dk_28 (dk_at dksX17_takeAll_0 12 rfl rfl)
theorem dX17_takeAll_13 : decode cX17_takeAll 13 = .ok (.invokevirtual 49, 3) := dk_182 0 49 (dk_at dksX17_takeAll_0 13 rfl rfl)
theorem dX17_takeAll_16 : decode cX17_takeAll 16 = .ok (.invokevirtual 50, 3) := dk_182 0 50 (dk_at dksX17_takeAll_0 16 rfl rfl)
theorem dX17_takeAll_19 : decode cX17_takeAll 19 = .ok (.iinc 2 1, 3) := dk_132 2 1 (dk_at dksX17_takeAll_0 19 rfl rfl)
theorem dX17_takeAll_22 : decode cX17_takeAll 22 = .ok (.goto (-20), 3) := dk_167 255 236 (dk_at dksX17_takeAll_1 0 rfl rfl)
theorem dX17_takeAll_25 : decode cX17_takeAll 25 = .ok (.return_, 1) := dk_177 (dk_at dksX17_takeAll_1 3 rfl rfl)
abbrev cX17_take : ByteArray := prog_11_method_4_code
def yX17_take : MethodName := ⟨RX17, "take", "(C)V"⟩
def dkwX17_take_1 : List UInt8 := [181, 0, 13, 177]
abbrev dktX17_take_1 : List UInt8 := dkwX17_take_1 ++ []
def dkwX17_take_0 : List UInt8 := [42, 42, 182, 0, 38, 27, 160, 0, 7, 4, 167, 0, 4, 3, 182, 0, 42, 42, 89, 180, 0, 13, 4, 96]
abbrev dktX17_take_0 : List UInt8 := dkwX17_take_0 ++ dktX17_take_1
theorem dksX17_take_0 : cX17_take.data.toList.drop 0 = dktX17_take_0 := by decide +kernel
theorem dksX17_take_1 : cX17_take.data.toList.drop 24 = dktX17_take_1 := dk_seg dksX17_take_0 24 rfl rfl
theorem dX17_take_0 : decode cX17_take 0 = .ok (.aload_n 0, 1) := dk_42 (dk_at dksX17_take_0 0 rfl rfl)
theorem dX17_take_1 : decode cX17_take 1 = .ok (.aload_n 0, 1) := dk_42 (dk_at dksX17_take_0 1 rfl rfl)
theorem dX17_take_2 : decode cX17_take 2 = .ok (.invokevirtual 38, 3) := dk_182 0 38 (dk_at dksX17_take_0 2 rfl rfl)
theorem dX17_take_5 : decode cX17_take 5 = .ok (.iload_n 1, 1) := dk_27 (dk_at dksX17_take_0 5 rfl rfl)
theorem dX17_take_6 : decode cX17_take 6 = .ok (.if_icmp .ne 7, 3) := dk_160 0 7 (dk_at dksX17_take_0 6 rfl rfl)
theorem dX17_take_9 : decode cX17_take 9 = .ok (.iconst 1, 1) := dk_4 (dk_at dksX17_take_0 9 rfl rfl)
theorem dX17_take_10 : decode cX17_take 10 = .ok (.goto 4, 3) := dk_167 0 4 (dk_at dksX17_take_0 10 rfl rfl)
theorem dX17_take_13 : decode cX17_take 13 = .ok (.iconst 0, 1) := dk_3 (dk_at dksX17_take_0 13 rfl rfl)
theorem dX17_take_14 : decode cX17_take 14 = .ok (.invokevirtual 42, 3) := dk_182 0 42 (dk_at dksX17_take_0 14 rfl rfl)
theorem dX17_take_17 : decode cX17_take 17 = .ok (.aload_n 0, 1) := dk_42 (dk_at dksX17_take_0 17 rfl rfl)
theorem dX17_take_18 : decode cX17_take 18 = .ok (.dup, 1) := dk_89 (dk_at dksX17_take_0 18 rfl rfl)
theorem dX17_take_19 : decode cX17_take 19 = .ok (.getfield 13, 3) := dk_180 0 13 (dk_at dksX17_take_0 19 rfl rfl)
theorem dX17_take_22 : decode cX17_take 22 = .ok (.iconst 1, 1) := dk_4 (dk_at dksX17_take_0 22 rfl rfl)
theorem dX17_take_23 : decode cX17_take 23 = .ok (.iadd, 1) := dk_96 (dk_at dksX17_take_0 23 rfl rfl)
theorem dX17_take_24 : decode cX17_take 24 = .ok (.putfield 13, 3) := dk_181 0 13 (dk_at dksX17_take_1 0 rfl rfl)
theorem dX17_take_27 : decode cX17_take 27 = .ok (.return_, 1) := dk_177 (dk_at dksX17_take_1 3 rfl rfl)
abbrev cX17_number : ByteArray := prog_11_method_8_code
def yX17_number : MethodName := ⟨RX17, "number", "()I"⟩
def dkwX17_number_1 : List UInt8 := [27, 172]
abbrev dktX17_number_1 : List UInt8 := dkwX17_number_1 ++ []
def dkwX17_number_0 : List UInt8 := [42, 182, 0, 58, 60, 42, 182, 0, 54, 153, 0, 15, 16, 10, 27, 104, 42, 182, 0, 58, 96, 167, 0, 4]
abbrev dktX17_number_0 : List UInt8 := dkwX17_number_0 ++ dktX17_number_1
theorem dksX17_number_0 : cX17_number.data.toList.drop 0 = dktX17_number_0 := by decide +kernel
theorem dksX17_number_1 : cX17_number.data.toList.drop 24 = dktX17_number_1 := dk_seg dksX17_number_0 24 rfl rfl
theorem dX17_number_0 : decode cX17_number 0 = .ok (.aload_n 0, 1) := dk_42 (dk_at dksX17_number_0 0 rfl rfl)
theorem dX17_number_1 : decode cX17_number 1 = .ok (.invokevirtual 58, 3) := dk_182 0 58 (dk_at dksX17_number_0 1 rfl rfl)
theorem dX17_number_4 : decode cX17_number 4 = .ok (.istore_n 1, 1) := dk_60 (dk_at dksX17_number_0 4 rfl rfl)
theorem dX17_number_5 : decode cX17_number 5 = .ok (.aload_n 0, 1) := dk_42 (dk_at dksX17_number_0 5 rfl rfl)
theorem dX17_number_6 : decode cX17_number 6 = .ok (.invokevirtual 54, 3) := dk_182 0 54 (dk_at dksX17_number_0 6 rfl rfl)
theorem dX17_number_9 : decode cX17_number 9 = .ok (.ifCond .eq 15, 3) := dk_153 0 15 (dk_at dksX17_number_0 9 rfl rfl)
theorem dX17_number_12 : decode cX17_number 12 = .ok (.bipush 10, 2) := dk_16 10 (dk_at dksX17_number_0 12 rfl rfl)
theorem dX17_number_14 : decode cX17_number 14 = .ok (.iload_n 1, 1) := dk_27 (dk_at dksX17_number_0 14 rfl rfl)
theorem dX17_number_15 : decode cX17_number 15 = .ok (.imul, 1) := dk_104 (dk_at dksX17_number_0 15 rfl rfl)
theorem dX17_number_16 : decode cX17_number 16 = .ok (.aload_n 0, 1) := dk_42 (dk_at dksX17_number_0 16 rfl rfl)
theorem dX17_number_17 : decode cX17_number 17 = .ok (.invokevirtual 58, 3) := dk_182 0 58 (dk_at dksX17_number_0 17 rfl rfl)
theorem dX17_number_20 : decode cX17_number 20 = .ok (.iadd, 1) := dk_96 (dk_at dksX17_number_0 20 rfl rfl)
theorem dX17_number_21 : decode cX17_number 21 = .ok (.goto 4, 3) := dk_167 0 4 (dk_at dksX17_number_0 21 rfl rfl)
theorem dX17_number_24 : decode cX17_number 24 = .ok (.iload_n 1, 1) := dk_27 (dk_at dksX17_number_1 0 rfl rfl)
theorem dX17_number_25 : decode cX17_number 25 = .ok (.ireturn, 1) := dk_172 (dk_at dksX17_number_1 1 rfl rfl)
abbrev cX17_digit : ByteArray := prog_11_method_7_code
def yX17_digit : MethodName := ⟨RX17, "digit", "()I"⟩
def dkwX17_digit_1 : List UInt8 := [180, 0, 17, 42, 180, 0, 13, 4, 100, 182, 0, 29, 16, 48, 100, 172]
abbrev dktX17_digit_1 : List UInt8 := dkwX17_digit_1 ++ []
def dkwX17_digit_0 : List UInt8 := [42, 42, 182, 0, 54, 182, 0, 42, 42, 89, 180, 0, 13, 4, 96, 181, 0, 13, 42, 180, 0, 1]
abbrev dktX17_digit_0 : List UInt8 := dkwX17_digit_0 ++ dktX17_digit_1
theorem dksX17_digit_0 : cX17_digit.data.toList.drop 0 = dktX17_digit_0 := by decide +kernel
theorem dksX17_digit_1 : cX17_digit.data.toList.drop 22 = dktX17_digit_1 := dk_seg dksX17_digit_0 22 rfl rfl
theorem dX17_digit_0 : decode cX17_digit 0 = .ok (.aload_n 0, 1) := dk_42 (dk_at dksX17_digit_0 0 rfl rfl)
theorem dX17_digit_1 : decode cX17_digit 1 = .ok (.aload_n 0, 1) := dk_42 (dk_at dksX17_digit_0 1 rfl rfl)
theorem dX17_digit_2 : decode cX17_digit 2 = .ok (.invokevirtual 54, 3) := dk_182 0 54 (dk_at dksX17_digit_0 2 rfl rfl)
theorem dX17_digit_5 : decode cX17_digit 5 = .ok (.invokevirtual 42, 3) := dk_182 0 42 (dk_at dksX17_digit_0 5 rfl rfl)
theorem dX17_digit_8 : decode cX17_digit 8 = .ok (.aload_n 0, 1) := dk_42 (dk_at dksX17_digit_0 8 rfl rfl)
theorem dX17_digit_9 : decode cX17_digit 9 = .ok (.dup, 1) := dk_89 (dk_at dksX17_digit_0 9 rfl rfl)
theorem dX17_digit_10 : decode cX17_digit 10 = .ok (.getfield 13, 3) := dk_180 0 13 (dk_at dksX17_digit_0 10 rfl rfl)
theorem dX17_digit_13 : decode cX17_digit 13 = .ok (.iconst 1, 1) := dk_4 (dk_at dksX17_digit_0 13 rfl rfl)
theorem dX17_digit_14 : decode cX17_digit 14 = .ok (.iadd, 1) := dk_96 (dk_at dksX17_digit_0 14 rfl rfl)
theorem dX17_digit_15 : decode cX17_digit 15 = .ok (.putfield 13, 3) := dk_181 0 13 (dk_at dksX17_digit_0 15 rfl rfl)
theorem dX17_digit_18 : decode cX17_digit 18 = .ok (.aload_n 0, 1) := dk_42 (dk_at dksX17_digit_0 18 rfl rfl)
theorem dX17_digit_19 : decode cX17_digit 19 = .ok (.getfield 1, 3) := dk_180 0 1 (dk_at dksX17_digit_0 19 rfl rfl)
theorem dX17_digit_22 : decode cX17_digit 22 = .ok (.getfield 17, 3) := dk_180 0 17 (dk_at dksX17_digit_1 0 rfl rfl)
theorem dX17_digit_25 : decode cX17_digit 25 = .ok (.aload_n 0, 1) := dk_42 (dk_at dksX17_digit_1 3 rfl rfl)
theorem dX17_digit_26 : decode cX17_digit 26 = .ok (.getfield 13, 3) := dk_180 0 13 (dk_at dksX17_digit_1 4 rfl rfl)
theorem dX17_digit_29 : decode cX17_digit 29 = .ok (.iconst 1, 1) := dk_4 (dk_at dksX17_digit_1 7 rfl rfl)
theorem dX17_digit_30 : decode cX17_digit 30 = .ok (.isub, 1) := dk_100 (dk_at dksX17_digit_1 8 rfl rfl)
theorem dX17_digit_31 : decode cX17_digit 31 = .ok (.invokevirtual 29, 3) := dk_182 0 29 (dk_at dksX17_digit_1 9 rfl rfl)
theorem dX17_digit_34 : decode cX17_digit 34 = .ok (.bipush 48, 2) := dk_16 48 (dk_at dksX17_digit_1 12 rfl rfl)
theorem dX17_digit_36 : decode cX17_digit 36 = .ok (.isub, 1) := dk_100 (dk_at dksX17_digit_1 14 rfl rfl)
theorem dX17_digit_37 : decode cX17_digit 37 = .ok (.ireturn, 1) := dk_172 (dk_at dksX17_digit_1 15 rfl rfl)
abbrev cX17_isDigit : ByteArray := prog_11_method_6_code
def yX17_isDigit : MethodName := ⟨RX17, "isDigit", "()Z"⟩
def dkwX17_isDigit_0 : List UInt8 := [42, 182, 0, 38, 16, 48, 161, 0, 16, 42, 182, 0, 38, 16, 57, 163, 0, 7, 4, 167, 0, 4, 3, 172]
abbrev dktX17_isDigit_0 : List UInt8 := dkwX17_isDigit_0 ++ []
theorem dksX17_isDigit_0 : cX17_isDigit.data.toList.drop 0 = dktX17_isDigit_0 := by decide +kernel
theorem dX17_isDigit_0 : decode cX17_isDigit 0 = .ok (.aload_n 0, 1) := dk_42 (dk_at dksX17_isDigit_0 0 rfl rfl)
theorem dX17_isDigit_1 : decode cX17_isDigit 1 = .ok (.invokevirtual 38, 3) := dk_182 0 38 (dk_at dksX17_isDigit_0 1 rfl rfl)
theorem dX17_isDigit_4 : decode cX17_isDigit 4 = .ok (.bipush 48, 2) := dk_16 48 (dk_at dksX17_isDigit_0 4 rfl rfl)
theorem dX17_isDigit_6 : decode cX17_isDigit 6 = .ok (.if_icmp .lt 16, 3) := dk_161 0 16 (dk_at dksX17_isDigit_0 6 rfl rfl)
theorem dX17_isDigit_9 : decode cX17_isDigit 9 = .ok (.aload_n 0, 1) := dk_42 (dk_at dksX17_isDigit_0 9 rfl rfl)
theorem dX17_isDigit_10 : decode cX17_isDigit 10 = .ok (.invokevirtual 38, 3) := dk_182 0 38 (dk_at dksX17_isDigit_0 10 rfl rfl)
theorem dX17_isDigit_13 : decode cX17_isDigit 13 = .ok (.bipush 57, 2) := dk_16 57 (dk_at dksX17_isDigit_0 13 rfl rfl)
theorem dX17_isDigit_15 : decode cX17_isDigit 15 = .ok (.if_icmp .gt 7, 3) := dk_163 0 7 (dk_at dksX17_isDigit_0 15 rfl rfl)
theorem dX17_isDigit_18 : decode cX17_isDigit 18 = .ok (.iconst 1, 1) := dk_4 (dk_at dksX17_isDigit_0 18 rfl rfl)
theorem dX17_isDigit_19 : decode cX17_isDigit 19 = .ok (.goto 4, 3) := dk_167 0 4 (dk_at dksX17_isDigit_0 19 rfl rfl)
theorem dX17_isDigit_22 : decode cX17_isDigit 22 = .ok (.iconst 0, 1) := dk_3 (dk_at dksX17_isDigit_0 22 rfl rfl)
theorem dX17_isDigit_23 : decode cX17_isDigit 23 = .ok (.ireturn, 1) := dk_172 (dk_at dksX17_isDigit_0 23 rfl rfl)
abbrev cX17_signed : ByteArray := prog_11_method_10_code
def yX17_signed : MethodName := ⟨RX17, "signed", "()I"⟩
def dkwX17_signed_2 : List UInt8 := [172]
abbrev dktX17_signed_2 : List UInt8 := dkwX17_signed_2 ++ []
def dkwX17_signed_1 : List UInt8 := [4, 167, 0, 4, 3, 96, 181, 0, 13, 42, 182, 0, 58, 61, 27, 153, 0, 8, 28, 116, 167, 0, 4, 28]
abbrev dktX17_signed_1 : List UInt8 := dkwX17_signed_1 ++ dktX17_signed_2
def dkwX17_signed_0 : List UInt8 := [42, 182, 0, 38, 16, 45, 160, 0, 7, 4, 167, 0, 4, 3, 60, 42, 89, 180, 0, 13, 27, 153, 0, 7]
abbrev dktX17_signed_0 : List UInt8 := dkwX17_signed_0 ++ dktX17_signed_1
theorem dksX17_signed_0 : cX17_signed.data.toList.drop 0 = dktX17_signed_0 := by decide +kernel
theorem dksX17_signed_1 : cX17_signed.data.toList.drop 24 = dktX17_signed_1 := dk_seg dksX17_signed_0 24 rfl rfl
theorem dksX17_signed_2 : cX17_signed.data.toList.drop 48 = dktX17_signed_2 := dk_seg dksX17_signed_1 24 rfl rfl
theorem dX17_signed_0 : decode cX17_signed 0 = .ok (.aload_n 0, 1) := dk_42 (dk_at dksX17_signed_0 0 rfl rfl)
theorem dX17_signed_1 : decode cX17_signed 1 = .ok (.invokevirtual 38, 3) := dk_182 0 38 (dk_at dksX17_signed_0 1 rfl rfl)
theorem dX17_signed_4 : decode cX17_signed 4 = .ok (.bipush 45, 2) := dk_16 45 (dk_at dksX17_signed_0 4 rfl rfl)
theorem dX17_signed_6 : decode cX17_signed 6 = .ok (.if_icmp .ne 7, 3) := dk_160 0 7 (dk_at dksX17_signed_0 6 rfl rfl)
theorem dX17_signed_9 : decode cX17_signed 9 = .ok (.iconst 1, 1) := dk_4 (dk_at dksX17_signed_0 9 rfl rfl)
theorem dX17_signed_10 : decode cX17_signed 10 = .ok (.goto 4, 3) := dk_167 0 4 (dk_at dksX17_signed_0 10 rfl rfl)
theorem dX17_signed_13 : decode cX17_signed 13 = .ok (.iconst 0, 1) := dk_3 (dk_at dksX17_signed_0 13 rfl rfl)
theorem dX17_signed_14 : decode cX17_signed 14 = .ok (.istore_n 1, 1) := dk_60 (dk_at dksX17_signed_0 14 rfl rfl)
theorem dX17_signed_15 : decode cX17_signed 15 = .ok (.aload_n 0, 1) := dk_42 (dk_at dksX17_signed_0 15 rfl rfl)
theorem dX17_signed_16 : decode cX17_signed 16 = .ok (.dup, 1) := dk_89 (dk_at dksX17_signed_0 16 rfl rfl)
theorem dX17_signed_17 : decode cX17_signed 17 = .ok (.getfield 13, 3) := dk_180 0 13 (dk_at dksX17_signed_0 17 rfl rfl)
theorem dX17_signed_20 : decode cX17_signed 20 = .ok (.iload_n 1, 1) := dk_27 (dk_at dksX17_signed_0 20 rfl rfl)
theorem dX17_signed_21 : decode cX17_signed 21 = .ok (.ifCond .eq 7, 3) := dk_153 0 7 (dk_at dksX17_signed_0 21 rfl rfl)
theorem dX17_signed_24 : decode cX17_signed 24 = .ok (.iconst 1, 1) := dk_4 (dk_at dksX17_signed_1 0 rfl rfl)
theorem dX17_signed_25 : decode cX17_signed 25 = .ok (.goto 4, 3) := dk_167 0 4 (dk_at dksX17_signed_1 1 rfl rfl)
theorem dX17_signed_28 : decode cX17_signed 28 = .ok (.iconst 0, 1) := dk_3 (dk_at dksX17_signed_1 4 rfl rfl)
theorem dX17_signed_29 : decode cX17_signed 29 = .ok (.iadd, 1) := dk_96 (dk_at dksX17_signed_1 5 rfl rfl)
theorem dX17_signed_30 : decode cX17_signed 30 = .ok (.putfield 13, 3) := dk_181 0 13 (dk_at dksX17_signed_1 6 rfl rfl)
theorem dX17_signed_33 : decode cX17_signed 33 = .ok (.aload_n 0, 1) := dk_42 (dk_at dksX17_signed_1 9 rfl rfl)
theorem dX17_signed_34 : decode cX17_signed 34 = .ok (.invokevirtual 58, 3) := dk_182 0 58 (dk_at dksX17_signed_1 10 rfl rfl)
theorem dX17_signed_37 : decode cX17_signed 37 = .ok (.istore_n 2, 1) := dk_61 (dk_at dksX17_signed_1 13 rfl rfl)
theorem dX17_signed_38 : decode cX17_signed 38 = .ok (.iload_n 1, 1) := dk_27 (dk_at dksX17_signed_1 14 rfl rfl)
theorem dX17_signed_39 : decode cX17_signed 39 = .ok (.ifCond .eq 8, 3) := dk_153 0 8 (dk_at dksX17_signed_1 15 rfl rfl)
theorem dX17_signed_42 : decode cX17_signed 42 = .ok (.iload_n 2, 1) := dk_28 (dk_at dksX17_signed_1 18 rfl rfl)
theorem dX17_signed_43 : decode cX17_signed 43 = .ok (.ineg, 1) := dk_116 (dk_at dksX17_signed_1 19 rfl rfl)
theorem dX17_signed_44 : decode cX17_signed 44 = .ok (.goto 4, 3) := dk_167 0 4 (dk_at dksX17_signed_1 20 rfl rfl)
theorem dX17_signed_47 : decode cX17_signed 47 = .ok (.iload_n 2, 1) := dk_28 (dk_at dksX17_signed_1 23 rfl rfl)
theorem dX17_signed_48 : decode cX17_signed 48 = .ok (.ireturn, 1) := dk_172 (dk_at dksX17_signed_2 0 rfl rfl)
