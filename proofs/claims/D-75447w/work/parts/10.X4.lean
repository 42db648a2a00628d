/-! decode rows: X4.AcousticCamera_Parser.lean.txt -/
set_option maxRecDepth 100000
abbrev cX4_init : ByteArray := prog_5_method_1_code
def yX4_init : MethodName := ⟨RX4, "<init>", "([BI)V"⟩
def dkwX4_init_1 : List UInt8 := [181, 0, 24, 42, 28, 181, 0, 28, 177]
abbrev dktX4_init_1 : List UInt8 := dkwX4_init_1 ++ []
def dkwX4_init_0 : List UInt8 := [42, 183, 0, 3, 42, 18, 9, 181, 0, 11, 42, 187, 0, 17, 89, 183, 0, 19, 181, 0, 20, 42, 43]
abbrev dktX4_init_0 : List UInt8 := dkwX4_init_0 ++ dktX4_init_1
theorem dksX4_init_0 : cX4_init.data.toList.drop 0 = dktX4_init_0 := by decide +kernel
theorem dksX4_init_1 : cX4_init.data.toList.drop 23 = dktX4_init_1 := dk_seg dksX4_init_0 23 rfl rfl
theorem dX4_init_0 : decode cX4_init 0 = .ok (.aload_n 0, 1) := dk_42 (dk_at dksX4_init_0 0 rfl rfl)
theorem dX4_init_1 : decode cX4_init 1 = .ok (.invokespecial 3, 3) := dk_183 0 3 (dk_at dksX4_init_0 1 rfl rfl)
theorem dX4_init_4 : decode cX4_init 4 = .ok (.aload_n 0, 1) := dk_42 (dk_at dksX4_init_0 4 rfl rfl)
theorem dX4_init_5 : decode cX4_init 5 = .ok (.ldc 9, 2) := dk_18 9 (dk_at dksX4_init_0 5 rfl rfl)
theorem dX4_init_7 : decode cX4_init 7 = .ok (.putfield 11, 3) := dk_181 0 11 (dk_at dksX4_init_0 7 rfl rfl)
theorem dX4_init_10 : decode cX4_init 10 = .ok (.aload_n 0, 1) := dk_42 (dk_at dksX4_init_0 10 rfl rfl)
theorem dX4_init_11 : decode cX4_init 11 = .ok (.new 17, 3) := dk_187 0 17 (dk_at dksX4_init_0 11 rfl rfl)
theorem dX4_init_14 : decode cX4_init 14 = .ok (.dup, 1) := dk_89 (dk_at dksX4_init_0 14 rfl rfl)
theorem dX4_init_15 : decode cX4_init 15 = .ok (.invokespecial 19, 3) := dk_183 0 19 (dk_at dksX4_init_0 15 rfl rfl)
theorem dX4_init_18 : decode cX4_init 18 = .ok (.putfield 20, 3) := dk_181 0 20 (dk_at dksX4_init_0 18 rfl rfl)
theorem dX4_init_21 : decode cX4_init 21 = .ok (.aload_n 0, 1) := dk_42 (dk_at dksX4_init_0 21 rfl rfl)
theorem dX4_init_22 : decode cX4_init 22 = .ok (.aload_n 1, 1) := dk_43 (dk_at dksX4_init_0 22 rfl rfl)
theorem dX4_init_23 : decode cX4_init 23 = .ok (.putfield 24, 3) := dk_181 0 24 (dk_at dksX4_init_1 0 rfl rfl)
theorem dX4_init_26 : decode cX4_init 26 = .ok (.aload_n 0, 1) := dk_42 (dk_at dksX4_init_1 3 rfl rfl)
theorem dX4_init_27 : decode cX4_init 27 = .ok (.iload_n 2, 1) := dk_28 (dk_at dksX4_init_1 4 rfl rfl)
theorem dX4_init_28 : decode cX4_init 28 = .ok (.putfield 28, 3) := dk_181 0 28 (dk_at dksX4_init_1 5 rfl rfl)
theorem dX4_init_31 : decode cX4_init 31 = .ok (.return_, 1) := dk_177 (dk_at dksX4_init_1 8 rfl rfl)
abbrev cX4_parse : ByteArray := prog_5_method_12_code
def yX4_parse : MethodName := ⟨RX4, "parse", "()LAcousticCamera$Setup;"⟩
def dkwX4_parse_6 : List UInt8 := [182, 0, 104, 191, 42, 180, 0, 20, 182, 0, 157, 42, 180, 0, 20, 176]
abbrev dktX4_parse_6 : List UInt8 := dkwX4_parse_6 ++ []
def dkwX4_parse_5 : List UInt8 := [180, 0, 146, 185, 0, 150, 1, 0, 154, 0, 13, 42, 180, 0, 20, 182, 0, 153, 154, 0, 9, 42, 8]
abbrev dktX4_parse_5 : List UInt8 := dkwX4_parse_5 ++ dktX4_parse_6
def dkwX4_parse_4 : List UInt8 := [167, 255, 243, 42, 180, 0, 11, 182, 0, 142, 154, 0, 9, 42, 4, 182, 0, 104, 191, 42, 180, 0, 20]
abbrev dktX4_parse_4 : List UInt8 := dkwX4_parse_4 ++ dktX4_parse_5
def dkwX4_parse_3 : List UInt8 := [4, 17, 39, 15, 182, 0, 122, 181, 0, 137, 42, 18, 79, 182, 0, 101, 153, 0, 10, 42, 182, 0, 139]
abbrev dktX4_parse_3 : List UInt8 := dkwX4_parse_3 ++ dktX4_parse_4
def dkwX4_parse_2 : List UInt8 := [180, 0, 20, 42, 18, 131, 16, 32, 17, 0, 200, 182, 0, 122, 181, 0, 133, 42, 180, 0, 20, 42, 18, 135]
abbrev dktX4_parse_2 : List UInt8 := dkwX4_parse_2 ++ dktX4_parse_3
def dkwX4_parse_1 : List UInt8 := [182, 0, 122, 181, 0, 125, 42, 180, 0, 20, 42, 18, 127, 4, 16, 99, 182, 0, 122, 181, 0, 129, 42]
abbrev dktX4_parse_1 : List UInt8 := dkwX4_parse_1 ++ dktX4_parse_2
def dkwX4_parse_0 : List UInt8 := [42, 182, 0, 98, 42, 18, 118, 182, 0, 112, 42, 180, 0, 20, 42, 18, 120, 16, 100, 17, 19, 136]
abbrev dktX4_parse_0 : List UInt8 := dkwX4_parse_0 ++ dktX4_parse_1
theorem dksX4_parse_0 : cX4_parse.data.toList.drop 0 = dktX4_parse_0 := by decide +kernel
theorem dksX4_parse_1 : cX4_parse.data.toList.drop 22 = dktX4_parse_1 := dk_seg dksX4_parse_0 22 rfl rfl
theorem dksX4_parse_2 : cX4_parse.data.toList.drop 45 = dktX4_parse_2 := dk_seg dksX4_parse_1 23 rfl rfl
theorem dksX4_parse_3 : cX4_parse.data.toList.drop 69 = dktX4_parse_3 := dk_seg dksX4_parse_2 24 rfl rfl
theorem dksX4_parse_4 : cX4_parse.data.toList.drop 92 = dktX4_parse_4 := dk_seg dksX4_parse_3 23 rfl rfl
theorem dksX4_parse_5 : cX4_parse.data.toList.drop 115 = dktX4_parse_5 := dk_seg dksX4_parse_4 23 rfl rfl
theorem dksX4_parse_6 : cX4_parse.data.toList.drop 138 = dktX4_parse_6 := dk_seg dksX4_parse_5 23 rfl rfl
theorem dX4_parse_0 : decode cX4_parse 0 = .ok (.aload_n 0, 1) := dk_42 (dk_at dksX4_parse_0 0 rfl rfl)
theorem dX4_parse_1 : decode cX4_parse 1 = .ok (.invokevirtual 98, 3) := dk_182 0 98 (dk_at dksX4_parse_0 1 rfl rfl)
theorem dX4_parse_4 : decode cX4_parse 4 = .ok (.aload_n 0, 1) := dk_42 (dk_at dksX4_parse_0 4 rfl rfl)
theorem dX4_parse_5 : decode cX4_parse 5 = .ok (.ldc 118, 2) := dk_18 118 (dk_at dksX4_parse_0 5 rfl rfl)
theorem dX4_parse_7 : decode cX4_parse 7 = .ok (.invokevirtual 112, 3) := dk_182 0 112 (dk_at dksX4_parse_0 7 rfl rfl)
theorem dX4_parse_10 : decode cX4_parse 10 = .ok (.aload_n 0, 1) := dk_42 (dk_at dksX4_parse_0 10 rfl rfl)
theorem dX4_parse_11 : decode cX4_parse 11 = .ok (.getfield 20, 3) := dk_180 0 20 (dk_at dksX4_parse_0 11 rfl rfl)
theorem dX4_parse_14 : decode cX4_parse 14 = .ok (.aload_n 0, 1) := dk_42 (dk_at dksX4_parse_0 14 rfl rfl)
theorem dX4_parse_15 : decode cX4_parse 15 = .ok (.ldc 120, 2) := dk_18 120 (dk_at dksX4_parse_0 15 rfl rfl)
theorem dX4_parse_17 : decode cX4_parse 17 = .ok (.bipush 100, 2) := dk_16 100 (dk_at dksX4_parse_0 17 rfl rfl)
theorem dX4_parse_19 : decode cX4_parse 19 = .ok (.sipush 5000, 3) := dk_17 19 136 (dk_at dksX4_parse_0 19 rfl rfl)
theorem dX4_parse_22 : decode cX4_parse 22 = .ok (.invokevirtual 122, 3) := dk_182 0 122 (dk_at dksX4_parse_1 0 rfl rfl)
theorem dX4_parse_25 : decode cX4_parse 25 = .ok (.putfield 125, 3) := dk_181 0 125 (dk_at dksX4_parse_1 3 rfl rfl)
theorem dX4_parse_28 : decode cX4_parse 28 = .ok (.aload_n 0, 1) := dk_42 (dk_at dksX4_parse_1 6 rfl rfl)
theorem dX4_parse_29 : decode cX4_parse 29 = .ok (.getfield 20, 3) := dk_180 0 20 (dk_at dksX4_parse_1 7 rfl rfl)
theorem dX4_parse_32 : decode cX4_parse 32 = .ok (.aload_n 0, 1) := dk_42 (dk_at dksX4_parse_1 10 rfl rfl)
theorem dX4_parse_33 : decode cX4_parse 33 = .ok (.ldc 127, 2) := dk_18 127 (dk_at dksX4_parse_1 11 rfl rfl)
theorem dX4_parse_35 : decode cX4_parse 35 = .ok (.iconst 1, 1) := dk_4 (dk_at dksX4_parse_1 13 rfl rfl)
theorem dX4_parse_36 : decode cX4_parse 36 = .ok (.bipush 99, 2) := dk_16 99 (dk_at dksX4_parse_1 14 rfl rfl)
theorem dX4_parse_38 : decode cX4_parse 38 = .ok (.invokevirtual 122, 3) := dk_182 0 122 (dk_at dksX4_parse_1 16 rfl rfl)
theorem dX4_parse_41 : decode cX4_parse 41 = .ok (.putfield 129, 3) := dk_181 0 129 (dk_at dksX4_parse_1 19 rfl rfl)
theorem dX4_parse_44 : decode cX4_parse 44 = .ok (.aload_n 0, 1) := dk_42 (dk_at dksX4_parse_1 22 rfl rfl)
theorem dX4_parse_45 : decode cX4_parse 45 = .ok (.getfield 20, 3) := dk_180 0 20 (dk_at dksX4_parse_2 0 rfl rfl)
theorem dX4_parse_48 : decode cX4_parse 48 = .ok (.aload_n 0, 1) := dk_42 (dk_at dksX4_parse_2 3 rfl rfl)
theorem dX4_parse_49 : decode cX4_parse 49 = .ok (.ldc 131, 2) := dk_18 131 (dk_at dksX4_parse_2 4 rfl rfl)
theorem dX4_parse_51 : decode cX4_parse 51 = .ok (.bipush 32, 2) := dk_16 32 (dk_at dksX4_parse_2 6 rfl rfl)
theorem dX4_parse_53 : decode cX4_parse 53 = .ok (.sipush 200, 3) := dk_17 0 200 (dk_at dksX4_parse_2 8 rfl rfl)
theorem dX4_parse_56 : decode cX4_parse 56 = .ok (.invokevirtual 122, 3) := dk_182 0 122 (dk_at dksX4_parse_2 11 rfl rfl)
theorem dX4_parse_59 : decode cX4_parse 59 = .ok (.putfield 133, 3) := dk_181 0 133 (dk_at dksX4_parse_2 14 rfl rfl)
theorem dX4_parse_62 : decode cX4_parse 62 = .ok (.aload_n 0, 1) := dk_42 (dk_at dksX4_parse_2 17 rfl rfl)
theorem dX4_parse_63 : decode cX4_parse 63 = .ok (.getfield 20, 3) := dk_180 0 20 (dk_at dksX4_parse_2 18 rfl rfl)
theorem dX4_parse_66 : decode cX4_parse 66 = .ok (.aload_n 0, 1) := dk_42 (dk_at dksX4_parse_2 21 rfl rfl)
theorem dX4_parse_67 : decode cX4_parse 67 = .ok (.ldc 135, 2) := dk_18 135 (dk_at dksX4_parse_2 22 rfl rfl)
theorem dX4_parse_69 : decode cX4_parse 69 = .ok (.iconst 1, 1) := dk_4 (dk_at dksX4_parse_3 0 rfl rfl)
theorem dX4_parse_70 : decode cX4_parse 70 = .ok (.sipush 9999, 3) := dk_17 39 15 (dk_at dksX4_parse_3 1 rfl rfl)
theorem dX4_parse_73 : decode cX4_parse 73 = .ok (.invokevirtual 122, 3) := dk_182 0 122 (dk_at dksX4_parse_3 4 rfl rfl)
theorem dX4_parse_76 : decode cX4_parse 76 = .ok (.putfield 137, 3) := dk_181 0 137 (dk_at dksX4_parse_3 7 rfl rfl)
theorem dX4_parse_79 : decode cX4_parse 79 = .ok (.aload_n 0, 1) := dk_42 (dk_at dksX4_parse_3 10 rfl rfl)
theorem dX4_parse_80 : decode cX4_parse 80 = .ok (.ldc 79, 2) := dk_18 79 (dk_at dksX4_parse_3 11 rfl rfl)
theorem dX4_parse_82 : decode cX4_parse 82 = .ok (.invokevirtual 101, 3) := dk_182 0 101 (dk_at dksX4_parse_3 13 rfl rfl)
theorem dX4_parse_85 : decode cX4_parse 85 = .ok (.ifCond .eq 10, 3) := dk_153 0 10 (dk_at dksX4_parse_3 16 rfl rfl)
theorem dX4_parse_88 : decode cX4_parse 88 = .ok (.aload_n 0, 1) := dk_42 (dk_at dksX4_parse_3 19 rfl rfl)
theorem dX4_parse_89 : decode cX4_parse 89 = .ok (.invokevirtual 139, 3) := dk_182 0 139 (dk_at dksX4_parse_3 20 rfl rfl)
theorem dX4_parse_92 : decode cX4_parse 92 = .ok (.goto (-13), 3) := dk_167 255 243 (dk_at dksX4_parse_4 0 rfl rfl)
theorem dX4_parse_95 : decode cX4_parse 95 = .ok (.aload_n 0, 1) := dk_42 (dk_at dksX4_parse_4 3 rfl rfl)
theorem dX4_parse_96 : decode cX4_parse 96 = .ok (.getfield 11, 3) := dk_180 0 11 (dk_at dksX4_parse_4 4 rfl rfl)
theorem dX4_parse_99 : decode cX4_parse 99 = .ok (.invokevirtual 142, 3) := dk_182 0 142 (dk_at dksX4_parse_4 7 rfl rfl)
theorem dX4_parse_102 : decode cX4_parse 102 = .ok (.ifCond .ne 9, 3) := dk_154 0 9 (dk_at dksX4_parse_4 10 rfl rfl)
theorem dX4_parse_105 : decode cX4_parse 105 = .ok (.aload_n 0, 1) := dk_42 (dk_at dksX4_parse_4 13 rfl rfl)
theorem dX4_parse_106 : decode cX4_parse 106 = .ok (.iconst 1, 1) := dk_4 (dk_at dksX4_parse_4 14 rfl rfl)
theorem dX4_parse_107 : decode cX4_parse 107 = .ok (.invokevirtual 104, 3) := dk_182 0 104 (dk_at dksX4_parse_4 15 rfl rfl)
theorem dX4_parse_110 : decode cX4_parse 110 = .ok (.athrow, 1) := dk_191 (dk_at dksX4_parse_4 18 rfl rfl)
theorem dX4_parse_111 : decode cX4_parse 111 = .ok (.aload_n 0, 1) := dk_42 (dk_at dksX4_parse_4 19 rfl rfl)
theorem dX4_parse_112 : decode cX4_parse 112 = .ok (.getfield 20, 3) := dk_180 0 20 (dk_at dksX4_parse_4 20 rfl rfl)
theorem dX4_parse_115 : decode cX4_parse 115 = .ok (.getfield 146, 3) := dk_180 0 146 (dk_at dksX4_parse_5 0 rfl rfl)
theorem dX4_parse_118 : decode cX4_parse 118 = .ok (.invokeinterface 150 1, 5) := by decide +kernel
theorem dX4_parse_123 : decode cX4_parse 123 = .ok (.ifCond .ne 13, 3) := dk_154 0 13 (dk_at dksX4_parse_5 8 rfl rfl)
theorem dX4_parse_126 : decode cX4_parse 126 = .ok (.aload_n 0, 1) := dk_42 (dk_at dksX4_parse_5 11 rfl rfl)
theorem dX4_parse_127 : decode cX4_parse 127 = .ok (.getfield 20, 3) := dk_180 0 20 (dk_at dksX4_parse_5 12 rfl rfl)
theorem dX4_parse_130 : decode cX4_parse 130 = .ok (.invokevirtual 153, 3) := dk_182 0 153 (dk_at dksX4_parse_5 15 rfl rfl)
theorem dX4_parse_133 : decode cX4_parse 133 = .ok (.ifCond .ne 9, 3) := dk_154 0 9 (dk_at dksX4_parse_5 18 rfl rfl)
theorem dX4_parse_136 : decode cX4_parse 136 = .ok (.aload_n 0, 1) := dk_42 (dk_at dksX4_parse_5 21 rfl rfl)
theorem dX4_parse_137 : decode cX4_parse 137 = .ok (.iconst 5, 1) := dk_8 (dk_at dksX4_parse_5 22 rfl rfl)
theorem dX4_parse_138 : decode cX4_parse 138 = .ok (.invokevirtual 104, 3) := dk_182 0 104 (dk_at dksX4_parse_6 0 rfl rfl)
theorem dX4_parse_141 : decode cX4_parse 141 = .ok (.athrow, 1) := dk_191 (dk_at dksX4_parse_6 3 rfl rfl)
theorem dX4_parse_142 : decode cX4_parse 142 = .ok (.aload_n 0, 1) := dk_42 (dk_at dksX4_parse_6 4 rfl rfl)
theorem dX4_parse_143 : decode cX4_parse 143 = .ok (.getfield 20, 3) := dk_180 0 20 (dk_at dksX4_parse_6 5 rfl rfl)
theorem dX4_parse_146 : decode cX4_parse 146 = .ok (.invokevirtual 157, 3) := dk_182 0 157 (dk_at dksX4_parse_6 8 rfl rfl)
theorem dX4_parse_149 : decode cX4_parse 149 = .ok (.aload_n 0, 1) := dk_42 (dk_at dksX4_parse_6 11 rfl rfl)
theorem dX4_parse_150 : decode cX4_parse 150 = .ok (.getfield 20, 3) := dk_180 0 20 (dk_at dksX4_parse_6 12 rfl rfl)
theorem dX4_parse_153 : decode cX4_parse 153 = .ok (.areturn, 1) := dk_176 (dk_at dksX4_parse_6 15 rfl rfl)
abbrev cX4_advance : ByteArray := prog_5_method_3_code
def yX4_advance : MethodName := ⟨RX4, "advance", "()V"⟩
def dkwX4_advance_13 : List UInt8 := [167, 0, 16, 27, 16, 45, 160, 0, 8, 18, 81, 167, 0, 5, 18, 57, 181, 0, 11, 177]
abbrev dktX4_advance_13 : List UInt8 := dkwX4_advance_13 ++ []
def dkwX4_advance_12 : List UInt8 := [167, 0, 41, 42, 89, 180, 0, 32, 4, 96, 181, 0, 32, 42, 27, 16, 59, 160, 0, 8, 18, 79]
abbrev dktX4_advance_12 : List UInt8 := dkwX4_advance_12 ++ dktX4_advance_13
def dkwX4_advance_11 : List UInt8 := [180, 0, 32, 42, 180, 0, 39, 100, 7, 164, 0, 8, 18, 57, 167, 0, 5, 18, 77, 181, 0, 11]
abbrev dktX4_advance_11 : List UInt8 := dkwX4_advance_11 ++ dktX4_advance_12
def dkwX4_advance_10 : List UInt8 := [100, 184, 0, 71, 181, 0, 67, 42, 89, 180, 0, 32, 4, 96, 181, 0, 32, 167, 255, 197, 42, 42]
abbrev dktX4_advance_10 : List UInt8 := dkwX4_advance_10 ++ dktX4_advance_11
def dkwX4_advance_9 : List UInt8 := [153, 0, 44, 42, 18, 70, 16, 10, 42, 180, 0, 67, 104, 42, 42, 180, 0, 32, 182, 0, 35, 96, 16, 48]
abbrev dktX4_advance_9 : List UInt8 := dkwX4_advance_9 ++ dktX4_advance_10
def dkwX4_advance_8 : List UInt8 := [3, 181, 0, 67, 42, 42, 180, 0, 32, 182, 0, 35, 133, 20, 0, 63, 20, 0, 65, 184, 0, 46]
abbrev dktX4_advance_8 : List UInt8 := dkwX4_advance_8 ++ dktX4_advance_9
def dkwX4_advance_7 : List UInt8 := [182, 0, 59, 181, 0, 11, 167, 0, 149, 27, 133, 20, 0, 63, 20, 0, 65, 184, 0, 46, 153, 0, 97, 42]
abbrev dktX4_advance_7 : List UInt8 := dkwX4_advance_7 ++ dktX4_advance_8
def dkwX4_advance_6 : List UInt8 := [167, 255, 197, 42, 42, 180, 0, 32, 42, 180, 0, 39, 100, 16, 8, 164, 0, 8, 18, 57, 167, 0, 7, 44]
abbrev dktX4_advance_6 : List UInt8 := dkwX4_advance_6 ++ dktX4_advance_7
def dkwX4_advance_5 : List UInt8 := [42, 42, 180, 0, 32, 182, 0, 35, 146, 182, 0, 53, 87, 42, 89, 180, 0, 32, 4, 96, 181, 0, 32]
abbrev dktX4_advance_5 : List UInt8 := dkwX4_advance_5 ++ dktX4_advance_6
def dkwX4_advance_4 : List UInt8 := [20, 0, 44, 184, 0, 46, 153, 0, 44, 42, 180, 0, 32, 42, 180, 0, 39, 100, 16, 8, 163, 0, 17, 44]
abbrev dktX4_advance_4 : List UInt8 := dkwX4_advance_4 ++ dktX4_advance_5
def dkwX4_advance_3 : List UInt8 := [153, 0, 103, 187, 0, 50, 89, 183, 0, 52, 77, 42, 42, 180, 0, 32, 182, 0, 35, 133, 20, 0, 42]
abbrev dktX4_advance_3 : List UInt8 := dkwX4_advance_3 ++ dktX4_advance_4
def dkwX4_advance_2 : List UInt8 := [160, 0, 12, 42, 18, 9, 181, 0, 11, 167, 1, 7, 27, 133, 20, 0, 42, 20, 0, 44, 184, 0, 46]
abbrev dktX4_advance_2 : List UInt8 := dkwX4_advance_2 ++ dktX4_advance_3
def dkwX4_advance_1 : List UInt8 := [167, 255, 233, 42, 42, 180, 0, 32, 181, 0, 39, 42, 42, 180, 0, 32, 182, 0, 35, 60, 27, 2]
abbrev dktX4_advance_1 : List UInt8 := dkwX4_advance_1 ++ dktX4_advance_2
def dkwX4_advance_0 : List UInt8 := [42, 42, 180, 0, 32, 182, 0, 35, 16, 32, 160, 0, 16, 42, 89, 180, 0, 32, 4, 96, 181, 0, 32]
abbrev dktX4_advance_0 : List UInt8 := dkwX4_advance_0 ++ dktX4_advance_1
theorem dksX4_advance_0 : cX4_advance.data.toList.drop 0 = dktX4_advance_0 := by decide +kernel
theorem dksX4_advance_1 : cX4_advance.data.toList.drop 23 = dktX4_advance_1 := dk_seg dksX4_advance_0 23 rfl rfl
theorem dksX4_advance_2 : cX4_advance.data.toList.drop 45 = dktX4_advance_2 := dk_seg dksX4_advance_1 22 rfl rfl
theorem dksX4_advance_3 : cX4_advance.data.toList.drop 68 = dktX4_advance_3 := dk_seg dksX4_advance_2 23 rfl rfl
theorem dksX4_advance_4 : cX4_advance.data.toList.drop 91 = dktX4_advance_4 := dk_seg dksX4_advance_3 23 rfl rfl
theorem dksX4_advance_5 : cX4_advance.data.toList.drop 115 = dktX4_advance_5 := dk_seg dksX4_advance_4 24 rfl rfl
theorem dksX4_advance_6 : cX4_advance.data.toList.drop 138 = dktX4_advance_6 := dk_seg dksX4_advance_5 23 rfl rfl
theorem dksX4_advance_7 : cX4_advance.data.toList.drop 162 = dktX4_advance_7 := dk_seg dksX4_advance_6 24 rfl rfl
theorem dksX4_advance_8 : cX4_advance.data.toList.drop 186 = dktX4_advance_8 := dk_seg dksX4_advance_7 24 rfl rfl
theorem dksX4_advance_9 : cX4_advance.data.toList.drop 208 = dktX4_advance_9 := dk_seg dksX4_advance_8 22 rfl rfl
theorem dksX4_advance_10 : cX4_advance.data.toList.drop 232 = dktX4_advance_10 := dk_seg dksX4_advance_9 24 rfl rfl
theorem dksX4_advance_11 : cX4_advance.data.toList.drop 254 = dktX4_advance_11 := dk_seg dksX4_advance_10 22 rfl rfl
theorem dksX4_advance_12 : cX4_advance.data.toList.drop 276 = dktX4_advance_12 := dk_seg dksX4_advance_11 22 rfl rfl
theorem dksX4_advance_13 : cX4_advance.data.toList.drop 298 = dktX4_advance_13 := dk_seg dksX4_advance_12 22 rfl rfl
theorem dX4_advance_0 : decode cX4_advance 0 = .ok (.aload_n 0, 1) := dk_42 (dk_at dksX4_advance_0 0 rfl rfl)
theorem dX4_advance_1 : decode cX4_advance 1 = .ok (.aload_n 0, 1) := dk_42 (dk_at dksX4_advance_0 1 rfl rfl)
theorem dX4_advance_2 : decode cX4_advance 2 = .ok (.getfield 32, 3) := dk_180 0 32 (dk_at dksX4_advance_0 2 rfl rfl)
theorem dX4_advance_5 : decode cX4_advance 5 = .ok (.invokevirtual 35, 3) := dk_182 0 35 (dk_at dksX4_advance_0 5 rfl rfl)
theorem dX4_advance_8 : decode cX4_advance 8 = .ok (.bipush 32, 2) := dk_16 32 (dk_at dksX4_advance_0 8 rfl rfl)
theorem dX4_advance_10 : decode cX4_advance 10 = .ok (.if_icmp .ne 16, 3) := dk_160 0 16 (dk_at dksX4_advance_0 10 rfl rfl)
theorem dX4_advance_13 : decode cX4_advance 13 = .ok (.aload_n 0, 1) := dk_42 (dk_at dksX4_advance_0 13 rfl rfl)
theorem dX4_advance_14 : decode cX4_advance 14 = .ok (.dup, 1) := dk_89 (dk_at dksX4_advance_0 14 rfl rfl)
theorem dX4_advance_15 : decode cX4_advance 15 = .ok (.getfield 32, 3) := dk_180 0 32 (dk_at dksX4_advance_0 15 rfl rfl)
theorem dX4_advance_18 : decode cX4_advance 18 = .ok (.iconst 1, 1) := dk_4 (dk_at dksX4_advance_0 18 rfl rfl)
theorem dX4_advance_19 : decode cX4_advance 19 = .ok (.iadd, 1) := dk_96 (dk_at dksX4_advance_0 19 rfl rfl)
theorem dX4_advance_20 : decode cX4_advance 20 = .ok (.putfield 32, 3) := dk_181 0 32 (dk_at dksX4_advance_0 20 rfl rfl)
theorem dX4_advance_23 : decode cX4_advance 23 = .ok (.goto (-23), 3) := dk_167 255 233 (dk_at dksX4_advance_1 0 rfl rfl)
theorem dX4_advance_26 : decode cX4_advance 26 = .ok (.aload_n 0, 1) := dk_42 (dk_at dksX4_advance_1 3 rfl rfl)
theorem dX4_advance_27 : decode cX4_advance 27 = .ok (.aload_n 0, 1) := dk_42 (dk_at dksX4_advance_1 4 rfl rfl)
theorem dX4_advance_28 : decode cX4_advance 28 = .ok (.getfield 32, 3) := dk_180 0 32 (dk_at dksX4_advance_1 5 rfl rfl)
theorem dX4_advance_31 : decode cX4_advance 31 = .ok (.putfield 39, 3) := dk_181 0 39 (dk_at dksX4_advance_1 8 rfl rfl)
theorem dX4_advance_34 : decode cX4_advance 34 = .ok (.aload_n 0, 1) := dk_42 (dk_at dksX4_advance_1 11 rfl rfl)
theorem dX4_advance_35 : decode cX4_advance 35 = .ok (.aload_n 0, 1) := dk_42 (dk_at dksX4_advance_1 12 rfl rfl)
theorem dX4_advance_36 : decode cX4_advance 36 = .ok (.getfield 32, 3) := dk_180 0 32 (dk_at dksX4_advance_1 13 rfl rfl)
theorem dX4_advance_39 : decode cX4_advance 39 = .ok (.invokevirtual 35, 3) := dk_182 0 35 (dk_at dksX4_advance_1 16 rfl rfl)
theorem dX4_advance_42 : decode cX4_advance 42 = .ok (.istore_n 1, 1) := dk_60 (dk_at dksX4_advance_1 19 rfl rfl)
theorem dX4_advance_43 : decode cX4_advance 43 = .ok (.iload_n 1, 1) := dk_27 (dk_at dksX4_advance_1 20 rfl rfl)
theorem dX4_advance_44 : decode cX4_advance 44 = .ok (.iconst (-1), 1) := dk_2 (dk_at dksX4_advance_1 21 rfl rfl)
theorem dX4_advance_45 : decode cX4_advance 45 = .ok (.if_icmp .ne 12, 3) := dk_160 0 12 (dk_at dksX4_advance_2 0 rfl rfl)
theorem dX4_advance_48 : decode cX4_advance 48 = .ok (.aload_n 0, 1) := dk_42 (dk_at dksX4_advance_2 3 rfl rfl)
theorem dX4_advance_49 : decode cX4_advance 49 = .ok (.ldc 9, 2) := dk_18 9 (dk_at dksX4_advance_2 4 rfl rfl)
theorem dX4_advance_51 : decode cX4_advance 51 = .ok (.putfield 11, 3) := dk_181 0 11 (dk_at dksX4_advance_2 6 rfl rfl)
theorem dX4_advance_54 : decode cX4_advance 54 = .ok (.goto 263, 3) := dk_167 1 7 (dk_at dksX4_advance_2 9 rfl rfl)
theorem dX4_advance_57 : decode cX4_advance 57 = .ok (.iload_n 1, 1) := dk_27 (dk_at dksX4_advance_2 12 rfl rfl)
theorem dX4_advance_58 : decode cX4_advance 58 = .ok (.i2l, 1) := dk_133 (dk_at dksX4_advance_2 13 rfl rfl)
theorem dX4_advance_59 : decode cX4_advance 59 = .ok (.ldc2_w 42, 3) := dk_20 0 42 (dk_at dksX4_advance_2 14 rfl rfl)
theorem dX4_advance_62 : decode cX4_advance 62 = .ok (.ldc2_w 44, 3) := dk_20 0 44 (dk_at dksX4_advance_2 17 rfl rfl)
theorem dX4_advance_65 : decode cX4_advance 65 = .ok (.invokestatic 46, 3) := dk_184 0 46 (dk_at dksX4_advance_2 20 rfl rfl)
theorem dX4_advance_68 : decode cX4_advance 68 = .ok (.ifCond .eq 103, 3) := dk_153 0 103 (dk_at dksX4_advance_3 0 rfl rfl)
theorem dX4_advance_71 : decode cX4_advance 71 = .ok (.new 50, 3) := dk_187 0 50 (dk_at dksX4_advance_3 3 rfl rfl)
theorem dX4_advance_74 : decode cX4_advance 74 = .ok (.dup, 1) := dk_89 (dk_at dksX4_advance_3 6 rfl rfl)
theorem dX4_advance_75 : decode cX4_advance 75 = .ok (.invokespecial 52, 3) := dk_183 0 52 (dk_at dksX4_advance_3 7 rfl rfl)
theorem dX4_advance_78 : decode cX4_advance 78 = .ok (.astore_n 2, 1) := dk_77 (dk_at dksX4_advance_3 10 rfl rfl)
theorem dX4_advance_79 : decode cX4_advance 79 = .ok (.aload_n 0, 1) := dk_42 (dk_at dksX4_advance_3 11 rfl rfl)
theorem dX4_advance_80 : decode cX4_advance 80 = .ok (.aload_n 0, 1) := dk_42 (dk_at dksX4_advance_3 12 rfl rfl)
theorem dX4_advance_81 : decode cX4_advance 81 = .ok (.getfield 32, 3) := dk_180 0 32 (dk_at dksX4_advance_3 13 rfl rfl)
theorem dX4_advance_84 : decode cX4_advance 84 = .ok (.invokevirtual 35, 3) := dk_182 0 35 (dk_at dksX4_advance_3 16 rfl rfl)
theorem dX4_advance_87 : decode cX4_advance 87 = .ok (.i2l, 1) := dk_133 (dk_at dksX4_advance_3 19 rfl rfl)
theorem dX4_advance_88 : decode cX4_advance 88 = .ok (.ldc2_w 42, 3) := dk_20 0 42 (dk_at dksX4_advance_3 20 rfl rfl)
theorem dX4_advance_91 : decode cX4_advance 91 = .ok (.ldc2_w 44, 3) := dk_20 0 44 (dk_at dksX4_advance_4 0 rfl rfl)
theorem dX4_advance_94 : decode cX4_advance 94 = .ok (.invokestatic 46, 3) := dk_184 0 46 (dk_at dksX4_advance_4 3 rfl rfl)
theorem dX4_advance_97 : decode cX4_advance 97 = .ok (.ifCond .eq 44, 3) := dk_153 0 44 (dk_at dksX4_advance_4 6 rfl rfl)
theorem dX4_advance_100 : decode cX4_advance 100 = .ok (.aload_n 0, 1) := dk_42 (dk_at dksX4_advance_4 9 rfl rfl)
theorem dX4_advance_101 : decode cX4_advance 101 = .ok (.getfield 32, 3) := dk_180 0 32 (dk_at dksX4_advance_4 10 rfl rfl)
theorem dX4_advance_104 : decode cX4_advance 104 = .ok (.aload_n 0, 1) := dk_42 (dk_at dksX4_advance_4 13 rfl rfl)
theorem dX4_advance_105 : decode cX4_advance 105 = .ok (.getfield 39, 3) := dk_180 0 39 (dk_at dksX4_advance_4 14 rfl rfl)
theorem dX4_advance_108 : decode cX4_advance 108 = .ok (.isub, 1) := dk_100 (dk_at dksX4_advance_4 17 rfl rfl)
theorem dX4_advance_109 : decode cX4_advance 109 = .ok (.bipush 8, 2) := dk_16 8 (dk_at dksX4_advance_4 18 rfl rfl)
theorem dX4_advance_111 : decode cX4_advance 111 = .ok (.if_icmp .gt 17, 3) := dk_163 0 17 (dk_at dksX4_advance_4 20 rfl rfl)
theorem dX4_advance_114 : decode cX4_advance 114 = .ok (.aload_n 2, 1) := dk_44 (dk_at dksX4_advance_4 23 rfl rfl)
theorem dX4_advance_115 : decode cX4_advance 115 = .ok (.aload_n 0, 1) := dk_42 (dk_at dksX4_advance_5 0 rfl rfl)
theorem dX4_advance_116 : decode cX4_advance 116 = .ok (.aload_n 0, 1) := dk_42 (dk_at dksX4_advance_5 1 rfl rfl)
theorem dX4_advance_117 : decode cX4_advance 117 = .ok (.getfield 32, 3) := dk_180 0 32 (dk_at dksX4_advance_5 2 rfl rfl)
theorem dX4_advance_120 : decode cX4_advance 120 = .ok (.invokevirtual 35, 3) := dk_182 0 35 (dk_at dksX4_advance_5 5 rfl rfl)
theorem dX4_advance_123 : decode cX4_advance 123 = .ok (.i2c, 1) := dk_146 (dk_at dksX4_advance_5 8 rfl rfl)
theorem dX4_advance_124 : decode cX4_advance 124 = .ok (.invokevirtual 53, 3) := dk_182 0 53 (dk_at dksX4_advance_5 9 rfl rfl)
theorem dX4_advance_127 : decode cX4_advance 127 = .ok (.pop, 1) := dk_87 (dk_at dksX4_advance_5 12 rfl rfl)
theorem dX4_advance_128 : decode cX4_advance 128 = .ok (.aload_n 0, 1) := dk_42 (dk_at dksX4_advance_5 13 rfl rfl)
theorem dX4_advance_129 : decode cX4_advance 129 = .ok (.dup, 1) := dk_89 (dk_at dksX4_advance_5 14 rfl rfl)
theorem dX4_advance_130 : decode cX4_advance 130 = .ok (.getfield 32, 3) := dk_180 0 32 (dk_at dksX4_advance_5 15 rfl rfl)
theorem dX4_advance_133 : decode cX4_advance 133 = .ok (.iconst 1, 1) := dk_4 (dk_at dksX4_advance_5 18 rfl rfl)
theorem dX4_advance_134 : decode cX4_advance 134 = .ok (.iadd, 1) := dk_96 (dk_at dksX4_advance_5 19 rfl rfl)
theorem dX4_advance_135 : decode cX4_advance 135 = .ok (.putfield 32, 3) := dk_181 0 32 (dk_at dksX4_advance_5 20 rfl rfl)
theorem dX4_advance_138 : decode cX4_advance 138 = .ok (.goto (-59), 3) := dk_167 255 197 (dk_at dksX4_advance_6 0 rfl rfl)
theorem dX4_advance_141 : decode cX4_advance 141 = .ok (.aload_n 0, 1) := dk_42 (dk_at dksX4_advance_6 3 rfl rfl)
theorem dX4_advance_142 : decode cX4_advance 142 = .ok (.aload_n 0, 1) := dk_42 (dk_at dksX4_advance_6 4 rfl rfl)
theorem dX4_advance_143 : decode cX4_advance 143 = .ok (.getfield 32, 3) := dk_180 0 32 (dk_at dksX4_advance_6 5 rfl rfl)
theorem dX4_advance_146 : decode cX4_advance 146 = .ok (.aload_n 0, 1) := dk_42 (dk_at dksX4_advance_6 8 rfl rfl)
theorem dX4_advance_147 : decode cX4_advance 147 = .ok (.getfield 39, 3) := dk_180 0 39 (dk_at dksX4_advance_6 9 rfl rfl)
theorem dX4_advance_150 : decode cX4_advance 150 = .ok (.isub, 1) := dk_100 (dk_at dksX4_advance_6 12 rfl rfl)
theorem dX4_advance_151 : decode cX4_advance 151 = .ok (.bipush 8, 2) := dk_16 8 (dk_at dksX4_advance_6 13 rfl rfl)
theorem dX4_advance_153 : decode cX4_advance 153 = .ok (.if_icmp .le 8, 3) := dk_164 0 8 (dk_at dksX4_advance_6 15 rfl rfl)
theorem dX4_advance_156 : decode cX4_advance 156 = .ok (.ldc 57, 2) := dk_18 57 (dk_at dksX4_advance_6 18 rfl rfl)
theorem dX4_advance_158 : decode cX4_advance 158 = .ok (.goto 7, 3) := dk_167 0 7 (dk_at dksX4_advance_6 20 rfl rfl)
theorem dX4_advance_161 : decode cX4_advance 161 = .ok (.aload_n 2, 1) := dk_44 (dk_at dksX4_advance_6 23 rfl rfl)
theorem dX4_advance_162 : decode cX4_advance 162 = .ok (.invokevirtual 59, 3) := dk_182 0 59 (dk_at dksX4_advance_7 0 rfl rfl)
theorem dX4_advance_165 : decode cX4_advance 165 = .ok (.putfield 11, 3) := dk_181 0 11 (dk_at dksX4_advance_7 3 rfl rfl)
theorem dX4_advance_168 : decode cX4_advance 168 = .ok (.goto 149, 3) := dk_167 0 149 (dk_at dksX4_advance_7 6 rfl rfl)
theorem dX4_advance_171 : decode cX4_advance 171 = .ok (.iload_n 1, 1) := dk_27 (dk_at dksX4_advance_7 9 rfl rfl)
theorem dX4_advance_172 : decode cX4_advance 172 = .ok (.i2l, 1) := dk_133 (dk_at dksX4_advance_7 10 rfl rfl)
theorem dX4_advance_173 : decode cX4_advance 173 = .ok (.ldc2_w 63, 3) := dk_20 0 63 (dk_at dksX4_advance_7 11 rfl rfl)
theorem dX4_advance_176 : decode cX4_advance 176 = .ok (.ldc2_w 65, 3) := dk_20 0 65 (dk_at dksX4_advance_7 14 rfl rfl)
theorem dX4_advance_179 : decode cX4_advance 179 = .ok (.invokestatic 46, 3) := dk_184 0 46 (dk_at dksX4_advance_7 17 rfl rfl)
theorem dX4_advance_182 : decode cX4_advance 182 = .ok (.ifCond .eq 97, 3) := dk_153 0 97 (dk_at dksX4_advance_7 20 rfl rfl)
theorem dX4_advance_185 : decode cX4_advance 185 = .ok (.aload_n 0, 1) := dk_42 (dk_at dksX4_advance_7 23 rfl rfl)
theorem dX4_advance_186 : decode cX4_advance 186 = .ok (.iconst 0, 1) := dk_3 (dk_at dksX4_advance_8 0 rfl rfl)
theorem dX4_advance_187 : decode cX4_advance 187 = .ok (.putfield 67, 3) := dk_181 0 67 (dk_at dksX4_advance_8 1 rfl rfl)
theorem dX4_advance_190 : decode cX4_advance 190 = .ok (.aload_n 0, 1) := dk_42 (dk_at dksX4_advance_8 4 rfl rfl)
theorem dX4_advance_191 : decode cX4_advance 191 = .ok (.aload_n 0, 1) := dk_42 (dk_at dksX4_advance_8 5 rfl rfl)
theorem dX4_advance_192 : decode cX4_advance 192 = .ok (.getfield 32, 3) := dk_180 0 32 (dk_at dksX4_advance_8 6 rfl rfl)
theorem dX4_advance_195 : decode cX4_advance 195 = .ok (.invokevirtual 35, 3) := dk_182 0 35 (dk_at dksX4_advance_8 9 rfl rfl)
theorem dX4_advance_198 : decode cX4_advance 198 = .ok (.i2l, 1) := dk_133 (dk_at dksX4_advance_8 12 rfl rfl)
theorem dX4_advance_199 : decode cX4_advance 199 = .ok (.ldc2_w 63, 3) := dk_20 0 63 (dk_at dksX4_advance_8 13 rfl rfl)
theorem dX4_advance_202 : decode cX4_advance 202 = .ok (.ldc2_w 65, 3) := dk_20 0 65 (dk_at dksX4_advance_8 16 rfl rfl)
theorem dX4_advance_205 : decode cX4_advance 205 = .ok (.invokestatic 46, 3) := dk_184 0 46 (dk_at dksX4_advance_8 19 rfl rfl)
theorem dX4_advance_208 : decode cX4_advance 208 = .ok (.ifCond .eq 44, 3) := dk_153 0 44 (dk_at dksX4_advance_9 0 rfl rfl)
theorem dX4_advance_211 : decode cX4_advance 211 = .ok (.aload_n 0, 1) := dk_42 (dk_at dksX4_advance_9 3 rfl rfl)
theorem dX4_advance_212 : decode cX4_advance 212 = .ok (.ldc 70, 2) := dk_18 70 (dk_at dksX4_advance_9 4 rfl rfl)
theorem dX4_advance_214 : decode cX4_advance 214 = .ok (.bipush 10, 2) := dk_16 10 (dk_at dksX4_advance_9 6 rfl rfl)
theorem dX4_advance_216 : decode cX4_advance 216 = .ok (.aload_n 0, 1) := dk_42 (dk_at dksX4_advance_9 8 rfl rfl)
theorem dX4_advance_217 : decode cX4_advance 217 = .ok (.getfield 67, 3) := dk_180 0 67 (dk_at dksX4_advance_9 9 rfl rfl)
theorem dX4_advance_220 : decode cX4_advance 220 = .ok (.imul, 1) := dk_104 (dk_at dksX4_advance_9 12 rfl rfl)
theorem dX4_advance_221 : decode cX4_advance 221 = .ok (.aload_n 0, 1) := dk_42 (dk_at dksX4_advance_9 13 rfl rfl)
theorem dX4_advance_222 : decode cX4_advance 222 = .ok (.aload_n 0, 1) := dk_42 (dk_at dksX4_advance_9 14 rfl rfl)
theorem dX4_advance_223 : decode cX4_advance 223 = .ok (.getfield 32, 3) := dk_180 0 32 (dk_at dksX4_advance_9 15 rfl rfl)
theorem dX4_advance_226 : decode cX4_advance 226 = .ok (.invokevirtual 35, 3) := dk_182 0 35 (dk_at dksX4_advance_9 18 rfl rfl)
theorem dX4_advance_229 : decode cX4_advance 229 = .ok (.iadd, 1) := dk_96 (dk_at dksX4_advance_9 21 rfl rfl)
theorem dX4_advance_230 : decode cX4_advance 230 = .ok (.bipush 48, 2) := dk_16 48 (dk_at dksX4_advance_9 22 rfl rfl)
theorem dX4_advance_232 : decode cX4_advance 232 = .ok (.isub, 1) := dk_100 (dk_at dksX4_advance_10 0 rfl rfl)
theorem dX4_advance_233 : decode cX4_advance 233 = .ok (.invokestatic 71, 3) := dk_184 0 71 (dk_at dksX4_advance_10 1 rfl rfl)
theorem dX4_advance_236 : decode cX4_advance 236 = .ok (.putfield 67, 3) := dk_181 0 67 (dk_at dksX4_advance_10 4 rfl rfl)
theorem dX4_advance_239 : decode cX4_advance 239 = .ok (.aload_n 0, 1) := dk_42 (dk_at dksX4_advance_10 7 rfl rfl)
theorem dX4_advance_240 : decode cX4_advance 240 = .ok (.dup, 1) := dk_89 (dk_at dksX4_advance_10 8 rfl rfl)
theorem dX4_advance_241 : decode cX4_advance 241 = .ok (.getfield 32, 3) := dk_180 0 32 (dk_at dksX4_advance_10 9 rfl rfl)
theorem dX4_advance_244 : decode cX4_advance 244 = .ok (.iconst 1, 1) := dk_4 (dk_at dksX4_advance_10 12 rfl rfl)
theorem dX4_advance_245 : decode cX4_advance 245 = .ok (.iadd, 1) := dk_96 (dk_at dksX4_advance_10 13 rfl rfl)
theorem dX4_advance_246 : decode cX4_advance 246 = .ok (.putfield 32, 3) := dk_181 0 32 (dk_at dksX4_advance_10 14 rfl rfl)
theorem dX4_advance_249 : decode cX4_advance 249 = .ok (.goto (-59), 3) := dk_167 255 197 (dk_at dksX4_advance_10 17 rfl rfl)
theorem dX4_advance_252 : decode cX4_advance 252 = .ok (.aload_n 0, 1) := dk_42 (dk_at dksX4_advance_10 20 rfl rfl)
theorem dX4_advance_253 : decode cX4_advance 253 = .ok (.aload_n 0, 1) := dk_42 (dk_at dksX4_advance_10 21 rfl rfl)
theorem dX4_advance_254 : decode cX4_advance 254 = .ok (.getfield 32, 3) := dk_180 0 32 (dk_at dksX4_advance_11 0 rfl rfl)
theorem dX4_advance_257 : decode cX4_advance 257 = .ok (.aload_n 0, 1) := dk_42 (dk_at dksX4_advance_11 3 rfl rfl)
theorem dX4_advance_258 : decode cX4_advance 258 = .ok (.getfield 39, 3) := dk_180 0 39 (dk_at dksX4_advance_11 4 rfl rfl)
theorem dX4_advance_261 : decode cX4_advance 261 = .ok (.isub, 1) := dk_100 (dk_at dksX4_advance_11 7 rfl rfl)
theorem dX4_advance_262 : decode cX4_advance 262 = .ok (.iconst 4, 1) := dk_7 (dk_at dksX4_advance_11 8 rfl rfl)
theorem dX4_advance_263 : decode cX4_advance 263 = .ok (.if_icmp .le 8, 3) := dk_164 0 8 (dk_at dksX4_advance_11 9 rfl rfl)
theorem dX4_advance_266 : decode cX4_advance 266 = .ok (.ldc 57, 2) := dk_18 57 (dk_at dksX4_advance_11 12 rfl rfl)
theorem dX4_advance_268 : decode cX4_advance 268 = .ok (.goto 5, 3) := dk_167 0 5 (dk_at dksX4_advance_11 14 rfl rfl)
theorem dX4_advance_271 : decode cX4_advance 271 = .ok (.ldc 77, 2) := dk_18 77 (dk_at dksX4_advance_11 17 rfl rfl)
theorem dX4_advance_273 : decode cX4_advance 273 = .ok (.putfield 11, 3) := dk_181 0 11 (dk_at dksX4_advance_11 19 rfl rfl)
theorem dX4_advance_276 : decode cX4_advance 276 = .ok (.goto 41, 3) := dk_167 0 41 (dk_at dksX4_advance_12 0 rfl rfl)
theorem dX4_advance_279 : decode cX4_advance 279 = .ok (.aload_n 0, 1) := dk_42 (dk_at dksX4_advance_12 3 rfl rfl)
theorem dX4_advance_280 : decode cX4_advance 280 = .ok (.dup, 1) := dk_89 (dk_at dksX4_advance_12 4 rfl rfl)
theorem dX4_advance_281 : decode cX4_advance 281 = .ok (.getfield 32, 3) := dk_180 0 32 (dk_at dksX4_advance_12 5 rfl rfl)
theorem dX4_advance_284 : decode cX4_advance 284 = .ok (.iconst 1, 1) := dk_4 (dk_at dksX4_advance_12 8 rfl rfl)
theorem dX4_advance_285 : decode cX4_advance 285 = .ok (.iadd, 1) := dk_96 (dk_at dksX4_advance_12 9 rfl rfl)
theorem dX4_advance_286 : decode cX4_advance 286 = .ok (.putfield 32, 3) := dk_181 0 32 (dk_at dksX4_advance_12 10 rfl rfl)
theorem dX4_advance_289 : decode cX4_advance 289 = .ok (.aload_n 0, 1) := dk_42 (dk_at dksX4_advance_12 13 rfl rfl)
theorem dX4_advance_290 : decode cX4_advance 290 = .ok (.iload_n 1, 1) := dk_27 (dk_at dksX4_advance_12 14 rfl rfl)
theorem dX4_advance_291 : decode cX4_advance 291 = .ok (.bipush 59, 2) := dk_16 59 (dk_at dksX4_advance_12 15 rfl rfl)
theorem dX4_advance_293 : decode cX4_advance 293 = .ok (.if_icmp .ne 8, 3) := dk_160 0 8 (dk_at dksX4_advance_12 17 rfl rfl)
theorem dX4_advance_296 : decode cX4_advance 296 = .ok (.ldc 79, 2) := dk_18 79 (dk_at dksX4_advance_12 20 rfl rfl)
theorem dX4_advance_298 : decode cX4_advance 298 = .ok (.goto 16, 3) := dk_167 0 16 (dk_at dksX4_advance_13 0 rfl rfl)
theorem dX4_advance_301 : decode cX4_advance 301 = .ok (.iload_n 1, 1) := dk_27 (dk_at dksX4_advance_13 3 rfl rfl)
theorem dX4_advance_302 : decode cX4_advance 302 = .ok (.bipush 45, 2) := dk_16 45 (dk_at dksX4_advance_13 4 rfl rfl)
theorem dX4_advance_304 : decode cX4_advance 304 = .ok (.if_icmp .ne 8, 3) := dk_160 0 8 (dk_at dksX4_advance_13 6 rfl rfl)
theorem dX4_advance_307 : decode cX4_advance 307 = .ok (.ldc 81, 2) := dk_18 81 (dk_at dksX4_advance_13 9 rfl rfl)
theorem dX4_advance_309 : decode cX4_advance 309 = .ok (.goto 5, 3) := dk_167 0 5 (dk_at dksX4_advance_13 11 rfl rfl)
theorem dX4_advance_312 : decode cX4_advance 312 = .ok (.ldc 57, 2) := dk_18 57 (dk_at dksX4_advance_13 14 rfl rfl)
theorem dX4_advance_314 : decode cX4_advance 314 = .ok (.putfield 11, 3) := dk_181 0 11 (dk_at dksX4_advance_13 16 rfl rfl)
theorem dX4_advance_317 : decode cX4_advance 317 = .ok (.return_, 1) := dk_177 (dk_at dksX4_advance_13 19 rfl rfl)
abbrev cX4_at : ByteArray := prog_5_method_2_code
def yX4_at : MethodName := ⟨RX4, "at", "(I)I"⟩
def dkwX4_at_0 : List UInt8 := [27, 42, 180, 0, 28, 162, 0, 16, 42, 180, 0, 24, 27, 51, 17, 0, 255, 126, 167, 0, 4, 2, 172]
abbrev dktX4_at_0 : List UInt8 := dkwX4_at_0 ++ []
theorem dksX4_at_0 : cX4_at.data.toList.drop 0 = dktX4_at_0 := by decide +kernel
theorem dX4_at_0 : decode cX4_at 0 = .ok (.iload_n 1, 1) := dk_27 (dk_at dksX4_at_0 0 rfl rfl)
theorem dX4_at_1 : decode cX4_at 1 = .ok (.aload_n 0, 1) := dk_42 (dk_at dksX4_at_0 1 rfl rfl)
theorem dX4_at_2 : decode cX4_at 2 = .ok (.getfield 28, 3) := dk_180 0 28 (dk_at dksX4_at_0 2 rfl rfl)
theorem dX4_at_5 : decode cX4_at 5 = .ok (.if_icmp .ge 16, 3) := dk_162 0 16 (dk_at dksX4_at_0 5 rfl rfl)
theorem dX4_at_8 : decode cX4_at 8 = .ok (.aload_n 0, 1) := dk_42 (dk_at dksX4_at_0 8 rfl rfl)
theorem dX4_at_9 : decode cX4_at 9 = .ok (.getfield 24, 3) := dk_180 0 24 (dk_at dksX4_at_0 9 rfl rfl)
theorem dX4_at_12 : decode cX4_at 12 = .ok (.iload_n 1, 1) := dk_27 (dk_at dksX4_at_0 12 rfl rfl)
theorem dX4_at_13 : decode cX4_at 13 = .ok (.baload, 1) := dk_51 (dk_at dksX4_at_0 13 rfl rfl)
theorem dX4_at_14 : decode cX4_at 14 = .ok (.sipush 255, 3) := dk_17 0 255 (dk_at dksX4_at_0 14 rfl rfl)
theorem dX4_at_17 : decode cX4_at 17 = .ok (.iand, 1) := dk_126 (dk_at dksX4_at_0 17 rfl rfl)
theorem dX4_at_18 : decode cX4_at 18 = .ok (.goto 4, 3) := dk_167 0 4 (dk_at dksX4_at_0 18 rfl rfl)
theorem dX4_at_21 : decode cX4_at 21 = .ok (.iconst (-1), 1) := dk_2 (dk_at dksX4_at_0 21 rfl rfl)
theorem dX4_at_22 : decode cX4_at 22 = .ok (.ireturn, 1) := dk_172 (dk_at dksX4_at_0 22 rfl rfl)
abbrev cX4_expect : ByteArray := prog_5_method_7_code
def yX4_expect : MethodName := ⟨RX4, "expect", "(Ljava/lang/String;)V"⟩
def dkwX4_expect_0 : List UInt8 := [42, 43, 182, 0, 101, 154, 0, 9, 42, 4, 182, 0, 104, 191, 177]
abbrev dktX4_expect_0 : List UInt8 := dkwX4_expect_0 ++ []
theorem dksX4_expect_0 : cX4_expect.data.toList.drop 0 = dktX4_expect_0 := by decide +kernel
theorem dX4_expect_0 : decode cX4_expect 0 = .ok (.aload_n 0, 1) := dk_42 (dk_at dksX4_expect_0 0 rfl rfl)
theorem dX4_expect_1 : decode cX4_expect 1 = .ok (.aload_n 1, 1) := dk_43 (dk_at dksX4_expect_0 1 rfl rfl)
theorem dX4_expect_2 : decode cX4_expect 2 = .ok (.invokevirtual 101, 3) := dk_182 0 101 (dk_at dksX4_expect_0 2 rfl rfl)
theorem dX4_expect_5 : decode cX4_expect 5 = .ok (.ifCond .ne 9, 3) := dk_154 0 9 (dk_at dksX4_expect_0 5 rfl rfl)
theorem dX4_expect_8 : decode cX4_expect 8 = .ok (.aload_n 0, 1) := dk_42 (dk_at dksX4_expect_0 8 rfl rfl)
theorem dX4_expect_9 : decode cX4_expect 9 = .ok (.iconst 1, 1) := dk_4 (dk_at dksX4_expect_0 9 rfl rfl)
theorem dX4_expect_10 : decode cX4_expect 10 = .ok (.invokevirtual 104, 3) := dk_182 0 104 (dk_at dksX4_expect_0 10 rfl rfl)
theorem dX4_expect_13 : decode cX4_expect 13 = .ok (.athrow, 1) := dk_191 (dk_at dksX4_expect_0 13 rfl rfl)
theorem dX4_expect_14 : decode cX4_expect 14 = .ok (.return_, 1) := dk_177 (dk_at dksX4_expect_0 14 rfl rfl)
abbrev cX4_takes : ByteArray := prog_5_method_6_code
def yX4_takes : MethodName := ⟨RX4, "takes", "(Ljava/lang/String;)Z"⟩
def dkwX4_takes_0 : List UInt8 := [42, 43, 182, 0, 94, 61, 28, 153, 0, 7, 42, 182, 0, 98, 28, 172]
abbrev dktX4_takes_0 : List UInt8 := dkwX4_takes_0 ++ []
theorem dksX4_takes_0 : cX4_takes.data.toList.drop 0 = dktX4_takes_0 := by decide +kernel
theorem dX4_takes_0 : decode cX4_takes 0 = .ok (.aload_n 0, 1) := dk_42 (dk_at dksX4_takes_0 0 rfl rfl)
theorem dX4_takes_1 : decode cX4_takes 1 = .ok (.aload_n 1, 1) := dk_43 (dk_at dksX4_takes_0 1 rfl rfl)
theorem dX4_takes_2 : decode cX4_takes 2 = .ok (.invokevirtual 94, 3) := dk_182 0 94 (dk_at dksX4_takes_0 2 rfl rfl)
theorem dX4_takes_5 : decode cX4_takes 5 = .ok (.istore_n 2, 1) := dk_61 (dk_at dksX4_takes_0 5 rfl rfl)
theorem dX4_takes_6 : decode cX4_takes 6 = .ok (.iload_n 2, 1) := dk_28 (dk_at dksX4_takes_0 6 rfl rfl)
theorem dX4_takes_7 : decode cX4_takes 7 = .ok (.ifCond .eq 7, 3) := dk_153 0 7 (dk_at dksX4_takes_0 7 rfl rfl)
theorem dX4_takes_10 : decode cX4_takes 10 = .ok (.aload_n 0, 1) := dk_42 (dk_at dksX4_takes_0 10 rfl rfl)
theorem dX4_takes_11 : decode cX4_takes 11 = .ok (.invokevirtual 98, 3) := dk_182 0 98 (dk_at dksX4_takes_0 11 rfl rfl)
theorem dX4_takes_14 : decode cX4_takes 14 = .ok (.iload_n 2, 1) := dk_28 (dk_at dksX4_takes_0 14 rfl rfl)
theorem dX4_takes_15 : decode cX4_takes 15 = .ok (.ireturn, 1) := dk_172 (dk_at dksX4_takes_0 15 rfl rfl)
abbrev cX4_is : ByteArray := prog_5_method_5_code
def yX4_is : MethodName := ⟨RX4, "is", "(Ljava/lang/String;)Z"⟩
def dkwX4_is_0 : List UInt8 := [42, 180, 0, 11, 43, 182, 0, 88, 172]
abbrev dktX4_is_0 : List UInt8 := dkwX4_is_0 ++ []
theorem dksX4_is_0 : cX4_is.data.toList.drop 0 = dktX4_is_0 := by decide +kernel
theorem dX4_is_0 : decode cX4_is 0 = .ok (.aload_n 0, 1) := dk_42 (dk_at dksX4_is_0 0 rfl rfl)
theorem dX4_is_1 : decode cX4_is 1 = .ok (.getfield 11, 3) := dk_180 0 11 (dk_at dksX4_is_0 1 rfl rfl)
theorem dX4_is_4 : decode cX4_is 4 = .ok (.aload_n 1, 1) := dk_43 (dk_at dksX4_is_0 4 rfl rfl)
theorem dX4_is_5 : decode cX4_is 5 = .ok (.invokevirtual 88, 3) := dk_182 0 88 (dk_at dksX4_is_0 5 rfl rfl)
theorem dX4_is_8 : decode cX4_is 8 = .ok (.ireturn, 1) := dk_172 (dk_at dksX4_is_0 8 rfl rfl)
abbrev cX4_flaw : ByteArray := prog_5_method_4_code
def yX4_flaw : MethodName := ⟨RX4, "flaw", "(I)LAcousticCamera$Flaw;"⟩
def dkwX4_flaw_0 : List UInt8 := [187, 0, 83, 89, 27, 42, 180, 0, 39, 183, 0, 85, 176]
abbrev dktX4_flaw_0 : List UInt8 := dkwX4_flaw_0 ++ []
theorem dksX4_flaw_0 : cX4_flaw.data.toList.drop 0 = dktX4_flaw_0 := by decide +kernel
theorem dX4_flaw_0 : decode cX4_flaw 0 = .ok (.new 83, 3) := dk_187 0 83 (dk_at dksX4_flaw_0 0 rfl rfl)
theorem dX4_flaw_3 : decode cX4_flaw 3 = .ok (.dup, 1) := dk_89 (dk_at dksX4_flaw_0 3 rfl rfl)
theorem dX4_flaw_4 : decode cX4_flaw 4 = .ok (.iload_n 1, 1) := dk_27 (dk_at dksX4_flaw_0 4 rfl rfl)
theorem dX4_flaw_5 : decode cX4_flaw 5 = .ok (.aload_n 0, 1) := dk_42 (dk_at dksX4_flaw_0 5 rfl rfl)
theorem dX4_flaw_6 : decode cX4_flaw 6 = .ok (.getfield 39, 3) := dk_180 0 39 (dk_at dksX4_flaw_0 6 rfl rfl)
theorem dX4_flaw_9 : decode cX4_flaw 9 = .ok (.invokespecial 85, 3) := dk_183 0 85 (dk_at dksX4_flaw_0 9 rfl rfl)
theorem dX4_flaw_12 : decode cX4_flaw 12 = .ok (.areturn, 1) := dk_176 (dk_at dksX4_flaw_0 12 rfl rfl)
abbrev cX4_number : ByteArray := prog_5_method_10_code
def yX4_number : MethodName := ⟨RX4, "number", "(Ljava/lang/String;II)I"⟩
def dkwX4_number_0 : List UInt8 := [42, 43, 182, 0, 112, 42, 28, 29, 182, 0, 116, 172]
abbrev dktX4_number_0 : List UInt8 := dkwX4_number_0 ++ []
theorem dksX4_number_0 : cX4_number.data.toList.drop 0 = dktX4_number_0 := by decide +kernel
theorem dX4_number_0 : decode cX4_number 0 = .ok (.aload_n 0, 1) := dk_42 (dk_at dksX4_number_0 0 rfl rfl)
theorem dX4_number_1 : decode cX4_number 1 = .ok (.aload_n 1, 1) := dk_43 (dk_at dksX4_number_0 1 rfl rfl)
theorem dX4_number_2 : decode cX4_number 2 = .ok (.invokevirtual 112, 3) := dk_182 0 112 (dk_at dksX4_number_0 2 rfl rfl)
theorem dX4_number_5 : decode cX4_number 5 = .ok (.aload_n 0, 1) := dk_42 (dk_at dksX4_number_0 5 rfl rfl)
theorem dX4_number_6 : decode cX4_number 6 = .ok (.iload_n 2, 1) := dk_28 (dk_at dksX4_number_0 6 rfl rfl)
theorem dX4_number_7 : decode cX4_number 7 = .ok (.iload_n 3, 1) := dk_29 (dk_at dksX4_number_0 7 rfl rfl)
theorem dX4_number_8 : decode cX4_number 8 = .ok (.invokevirtual 116, 3) := dk_182 0 116 (dk_at dksX4_number_0 8 rfl rfl)
theorem dX4_number_11 : decode cX4_number 11 = .ok (.ireturn, 1) := dk_172 (dk_at dksX4_number_0 11 rfl rfl)
abbrev cX4_number_2 : ByteArray := prog_5_method_9_code
def yX4_number_2 : MethodName := ⟨RX4, "number", "(II)I"⟩
def dkwX4_number_2_0 : List UInt8 := [42, 4, 27, 28, 182, 0, 108, 172]
abbrev dktX4_number_2_0 : List UInt8 := dkwX4_number_2_0 ++ []
theorem dksX4_number_2_0 : cX4_number_2.data.toList.drop 0 = dktX4_number_2_0 := by decide +kernel
theorem dX4_number_2_0 : decode cX4_number_2 0 = .ok (.aload_n 0, 1) := dk_42 (dk_at dksX4_number_2_0 0 rfl rfl)
theorem dX4_number_2_1 : decode cX4_number_2 1 = .ok (.iconst 1, 1) := dk_4 (dk_at dksX4_number_2_0 1 rfl rfl)
theorem dX4_number_2_2 : decode cX4_number_2 2 = .ok (.iload_n 1, 1) := dk_27 (dk_at dksX4_number_2_0 2 rfl rfl)
theorem dX4_number_2_3 : decode cX4_number_2 3 = .ok (.iload_n 2, 1) := dk_28 (dk_at dksX4_number_2_0 3 rfl rfl)
theorem dX4_number_2_4 : decode cX4_number_2 4 = .ok (.invokevirtual 108, 3) := dk_182 0 108 (dk_at dksX4_number_2_0 4 rfl rfl)
theorem dX4_number_2_7 : decode cX4_number_2 7 = .ok (.ireturn, 1) := dk_172 (dk_at dksX4_number_2_0 7 rfl rfl)
abbrev cX4_signedBy : ByteArray := prog_5_method_8_code
def yX4_signedBy : MethodName := ⟨RX4, "signedBy", "(III)I"⟩
def dkwX4_signedBy_2 : List UInt8 := [21, 4, 172]
abbrev dktX4_signedBy_2 : List UInt8 := dkwX4_signedBy_2 ++ []
def dkwX4_signedBy_1 : List UInt8 := [21, 4, 133, 28, 133, 29, 133, 184, 0, 46, 154, 0, 9, 42, 5, 182, 0, 104, 191, 42, 182, 0, 98]
abbrev dktX4_signedBy_1 : List UInt8 := dkwX4_signedBy_1 ++ dktX4_signedBy_2
def dkwX4_signedBy_0 : List UInt8 := [42, 18, 77, 182, 0, 94, 154, 0, 9, 42, 4, 182, 0, 104, 191, 27, 42, 180, 0, 67, 104, 54, 4]
abbrev dktX4_signedBy_0 : List UInt8 := dkwX4_signedBy_0 ++ dktX4_signedBy_1
theorem dksX4_signedBy_0 : cX4_signedBy.data.toList.drop 0 = dktX4_signedBy_0 := by decide +kernel
theorem dksX4_signedBy_1 : cX4_signedBy.data.toList.drop 23 = dktX4_signedBy_1 := dk_seg dksX4_signedBy_0 23 rfl rfl
theorem dksX4_signedBy_2 : cX4_signedBy.data.toList.drop 46 = dktX4_signedBy_2 := dk_seg dksX4_signedBy_1 23 rfl rfl
theorem dX4_signedBy_0 : decode cX4_signedBy 0 = .ok (.aload_n 0, 1) := dk_42 (dk_at dksX4_signedBy_0 0 rfl rfl)
theorem dX4_signedBy_1 : decode cX4_signedBy 1 = .ok (.ldc 77, 2) := dk_18 77 (dk_at dksX4_signedBy_0 1 rfl rfl)
theorem dX4_signedBy_3 : decode cX4_signedBy 3 = .ok (.invokevirtual 94, 3) := dk_182 0 94 (dk_at dksX4_signedBy_0 3 rfl rfl)
theorem dX4_signedBy_6 : decode cX4_signedBy 6 = .ok (.ifCond .ne 9, 3) := dk_154 0 9 (dk_at dksX4_signedBy_0 6 rfl rfl)
theorem dX4_signedBy_9 : decode cX4_signedBy 9 = .ok (.aload_n 0, 1) := dk_42 (dk_at dksX4_signedBy_0 9 rfl rfl)
theorem dX4_signedBy_10 : decode cX4_signedBy 10 = .ok (.iconst 1, 1) := dk_4 (dk_at dksX4_signedBy_0 10 rfl rfl)
theorem dX4_signedBy_11 : decode cX4_signedBy 11 = .ok (.invokevirtual 104, 3) := dk_182 0 104 (dk_at dksX4_signedBy_0 11 rfl rfl)
theorem dX4_signedBy_14 : decode cX4_signedBy 14 = .ok (.athrow, 1) := dk_191 (dk_at dksX4_signedBy_0 14 rfl rfl)
theorem dX4_signedBy_15 : decode cX4_signedBy 15 = .ok (.iload_n 1, 1) := dk_27 (dk_at dksX4_signedBy_0 15 rfl rfl)
theorem dX4_signedBy_16 : decode cX4_signedBy 16 = .ok (.aload_n 0, 1) := dk_42 (dk_at dksX4_signedBy_0 16 rfl rfl)
theorem dX4_signedBy_17 : decode cX4_signedBy 17 = .ok (.getfield 67, 3) := dk_180 0 67 (dk_at dksX4_signedBy_0 17 rfl rfl)
theorem dX4_signedBy_20 : decode cX4_signedBy 20 = .ok (.imul, 1) := dk_104 (dk_at dksX4_signedBy_0 20 rfl rfl)
theorem dX4_signedBy_21 : decode cX4_signedBy 21 = .ok (.istore 4, 2) := dk_54 4 (dk_at dksX4_signedBy_0 21 rfl rfl)
theorem dX4_signedBy_23 : decode cX4_signedBy 23 = .ok (.iload 4, 2) := dk_21 4 (dk_at dksX4_signedBy_1 0 rfl rfl)
theorem dX4_signedBy_25 : decode cX4_signedBy 25 = .ok (.i2l, 1) := dk_133 (dk_at dksX4_signedBy_1 2 rfl rfl)
theorem dX4_signedBy_26 : decode cX4_signedBy 26 = .ok (.iload_n 2, 1) := dk_28 (dk_at dksX4_signedBy_1 3 rfl rfl)
theorem dX4_signedBy_27 : decode cX4_signedBy 27 = .ok (.i2l, 1) := dk_133 (dk_at dksX4_signedBy_1 4 rfl rfl)
theorem dX4_signedBy_28 : decode cX4_signedBy 28 = .ok (.iload_n 3, 1) := dk_29 (dk_at dksX4_signedBy_1 5 rfl rfl)
theorem dX4_signedBy_29 : decode cX4_signedBy 29 = .ok (.i2l, 1) := dk_133 (dk_at dksX4_signedBy_1 6 rfl rfl)
theorem dX4_signedBy_30 : decode cX4_signedBy 30 = .ok (.invokestatic 46, 3) := dk_184 0 46 (dk_at dksX4_signedBy_1 7 rfl rfl)
theorem dX4_signedBy_33 : decode cX4_signedBy 33 = .ok (.ifCond .ne 9, 3) := dk_154 0 9 (dk_at dksX4_signedBy_1 10 rfl rfl)
theorem dX4_signedBy_36 : decode cX4_signedBy 36 = .ok (.aload_n 0, 1) := dk_42 (dk_at dksX4_signedBy_1 13 rfl rfl)
theorem dX4_signedBy_37 : decode cX4_signedBy 37 = .ok (.iconst 2, 1) := dk_5 (dk_at dksX4_signedBy_1 14 rfl rfl)
theorem dX4_signedBy_38 : decode cX4_signedBy 38 = .ok (.invokevirtual 104, 3) := dk_182 0 104 (dk_at dksX4_signedBy_1 15 rfl rfl)
theorem dX4_signedBy_41 : decode cX4_signedBy 41 = .ok (.athrow, 1) := dk_191 (dk_at dksX4_signedBy_1 18 rfl rfl)
theorem dX4_signedBy_42 : decode cX4_signedBy 42 = .ok (.aload_n 0, 1) := dk_42 (dk_at dksX4_signedBy_1 19 rfl rfl)
theorem dX4_signedBy_43 : decode cX4_signedBy 43 = .ok (.invokevirtual 98, 3) := dk_182 0 98 (dk_at dksX4_signedBy_1 20 rfl rfl)
theorem dX4_signedBy_46 : decode cX4_signedBy 46 = .ok (.iload 4, 2) := dk_21 4 (dk_at dksX4_signedBy_2 0 rfl rfl)
theorem dX4_signedBy_48 : decode cX4_signedBy 48 = .ok (.ireturn, 1) := dk_172 (dk_at dksX4_signedBy_2 2 rfl rfl)
abbrev cX4_line : ByteArray := prog_5_method_13_code
def yX4_line : MethodName := ⟨RX4, "line", "()V"⟩
def dkwX4_line_25 : List UInt8 := [182, 0, 232, 167, 0, 9, 42, 4, 182, 0, 104, 191, 177]
abbrev dktX4_line_25 : List UInt8 := dkwX4_line_25 ++ []
def dkwX4_line_24 : List UInt8 := [180, 0, 229, 185, 0, 183, 1, 0, 7, 160, 0, 7, 4, 167, 0, 4, 3, 7, 182, 0, 186, 42]
abbrev dktX4_line_24 : List UInt8 := dkwX4_line_24 ++ dktX4_line_25
def dkwX4_line_23 : List UInt8 := [42, 182, 0, 225, 167, 0, 53, 42, 182, 0, 98, 42, 182, 0, 227, 167, 0, 42, 42, 42, 180, 0, 20]
abbrev dktX4_line_23 : List UInt8 := dkwX4_line_23 ++ dktX4_line_24
def dkwX4_line_22 : List UInt8 := [167, 0, 81, 42, 42, 180, 0, 20, 180, 0, 223, 190, 158, 0, 7, 4, 167, 0, 4, 3, 6, 182, 0, 186]
abbrev dktX4_line_22 : List UInt8 := dkwX4_line_22 ++ dktX4_line_23
def dkwX4_line_21 : List UInt8 := [4, 167, 0, 4, 3, 6, 182, 0, 186, 42, 182, 0, 219, 167, 0, 92, 42, 182, 0, 98, 42, 182, 0, 221]
abbrev dktX4_line_21 : List UInt8 := dkwX4_line_21 ++ dktX4_line_22
def dkwX4_line_20 : List UInt8 := [17, 3, 231, 182, 0, 116, 181, 0, 214, 167, 0, 120, 42, 42, 180, 0, 20, 180, 0, 216, 190, 158, 0, 7]
abbrev dktX4_line_20 : List UInt8 := dkwX4_line_20 ++ dktX4_line_21
def dkwX4_line_19 : List UInt8 := [180, 0, 20, 180, 0, 214, 158, 0, 7, 4, 167, 0, 4, 3, 6, 182, 0, 186, 42, 180, 0, 20, 42, 4]
abbrev dktX4_line_19 : List UInt8 := dkwX4_line_19 ++ dktX4_line_20
def dkwX4_line_18 : List UInt8 := [89, 21, 5, 42, 4, 16, 100, 182, 0, 116, 183, 0, 213, 185, 0, 198, 2, 0, 87, 167, 0, 158, 42, 42]
abbrev dktX4_line_18 : List UInt8 := dkwX4_line_18 ++ dktX4_line_19
def dkwX4_line_17 : List UInt8 := [3, 7, 182, 0, 186, 42, 17, 7, 208, 182, 0, 190, 54, 5, 42, 180, 0, 20, 180, 0, 208, 187, 0, 211]
abbrev dktX4_line_17 : List UInt8 := dkwX4_line_17 ++ dktX4_line_18
def dkwX4_line_16 : List UInt8 := [167, 0, 225, 42, 42, 180, 0, 20, 180, 0, 208, 185, 0, 183, 1, 0, 5, 160, 0, 7, 4, 167, 0, 4]
abbrev dktX4_line_16 : List UInt8 := dkwX4_line_16 ++ dktX4_line_17
def dkwX4_line_15 : List UInt8 := [185, 0, 183, 1, 0, 16, 6, 160, 0, 7, 4, 167, 0, 4, 3, 7, 182, 0, 186, 42, 182, 0, 206]
abbrev dktX4_line_15 : List UInt8 := dkwX4_line_15 ++ dktX4_line_16
def dkwX4_line_14 : List UInt8 := [3, 6, 182, 0, 186, 42, 182, 0, 201, 167, 1, 3, 42, 42, 180, 0, 20, 180, 0, 203]
abbrev dktX4_line_14 : List UInt8 := dkwX4_line_14 ++ dktX4_line_15
def dkwX4_line_13 : List UInt8 := [185, 0, 198, 2, 0, 87, 167, 1, 30, 42, 42, 180, 0, 20, 182, 0, 153, 158, 0, 7, 4, 167, 0, 4]
abbrev dktX4_line_13 : List UInt8 := dkwX4_line_13 ++ dktX4_line_14
def dkwX4_line_12 : List UInt8 := [180, 0, 146, 187, 0, 193, 89, 29, 21, 4, 42, 4, 16, 9, 182, 0, 116, 183, 0, 195]
abbrev dktX4_line_12 : List UInt8 := dkwX4_line_12 ++ dktX4_line_13
def dkwX4_line_11 : List UInt8 := [182, 0, 186, 42, 17, 1, 244, 182, 0, 190, 62, 42, 17, 1, 244, 182, 0, 190, 54, 4, 42, 180, 0, 20]
abbrev dktX4_line_11 : List UInt8 := dkwX4_line_11 ++ dktX4_line_12
def dkwX4_line_10 : List UInt8 := [42, 42, 180, 0, 20, 180, 0, 146, 185, 0, 183, 1, 0, 16, 12, 160, 0, 7, 4, 167, 0, 4, 3, 7]
abbrev dktX4_line_10 : List UInt8 := dkwX4_line_10 ++ dktX4_line_11
def dkwX4_line_9 : List UInt8 := [170, 0, 0, 0, 1, 152, 0, 0, 0, 0, 0, 0, 0, 9, 0, 0, 0, 54, 0, 0, 0, 131, 0, 0, 0, 158, 0, 0, 0, 192, 0, 0, 1, 3, 0, 0, 1, 41, 0, 0, 1, 69, 0, 0, 1, 80, 0, 0, 1, 108, 0, 0, 1, 119]
abbrev dktX4_line_9 : List UInt8 := dkwX4_line_9 ++ dktX4_line_10
def dkwX4_line_8 : List UInt8 := [28]
abbrev dktX4_line_8 : List UInt8 := dkwX4_line_8 ++ dktX4_line_9
def dkwX4_line_7 : List UInt8 := [182, 0, 88, 153, 0, 21, 16, 8, 61, 167, 0, 15, 43, 18, 181, 182, 0, 88, 153, 0, 6, 16, 9, 61]
abbrev dktX4_line_7 : List UInt8 := dkwX4_line_7 ++ dktX4_line_8
def dkwX4_line_6 : List UInt8 := [61, 167, 0, 45, 43, 18, 177, 182, 0, 88, 153, 0, 36, 16, 7, 61, 167, 0, 30, 43, 18, 179]
abbrev dktX4_line_6 : List UInt8 := dkwX4_line_6 ++ dktX4_line_7
def dkwX4_line_5 : List UInt8 := [18, 173, 182, 0, 88, 153, 0, 65, 8, 61, 167, 0, 60, 43, 18, 175, 182, 0, 88, 153, 0, 51, 16, 6]
abbrev dktX4_line_5 : List UInt8 := dkwX4_line_5 ++ dktX4_line_6
def dkwX4_line_4 : List UInt8 := [153, 0, 93, 6, 61, 167, 0, 88, 43, 18, 171, 182, 0, 88, 153, 0, 79, 7, 61, 167, 0, 74, 43]
abbrev dktX4_line_4 : List UInt8 := dkwX4_line_4 ++ dktX4_line_5
def dkwX4_line_3 : List UInt8 := [61, 167, 0, 116, 43, 18, 167, 182, 0, 88, 153, 0, 107, 5, 61, 167, 0, 102, 43, 18, 169, 182, 0, 88]
abbrev dktX4_line_3 : List UInt8 := dkwX4_line_3 ++ dktX4_line_4
def dkwX4_line_2 : List UInt8 := [43, 18, 163, 182, 0, 88, 153, 0, 135, 3, 61, 167, 0, 130, 43, 18, 165, 182, 0, 88, 153, 0, 121, 4]
abbrev dktX4_line_2 : List UInt8 := dkwX4_line_2 ++ dktX4_line_3
def dkwX4_line_1 : List UInt8 := [171, 0, 0, 0, 230, 0, 0, 0, 10, 180, 8, 203, 120, 0, 0, 0, 159, 202, 144, 104, 27, 0, 0, 0, 117, 0, 1, 165, 92, 0, 0, 0, 103, 0, 1, 166, 71, 0, 0, 0, 89, 0, 1, 173, 111, 0, 0, 0, 203, 0, 47, 214, 124, 0, 0, 0, 145, 0, 55, 145, 202, 0, 0, 0, 131, 0, 57, 35, 172, 0, 0, 0, 218, 5, 165, 220, 14, 0, 0, 0, 173, 6, 133, 78, 45, 0, 0, 0, 188]
abbrev dktX4_line_1 : List UInt8 := dkwX4_line_1 ++ dktX4_line_2
def dkwX4_line_0 : List UInt8 := [42, 180, 0, 11, 76, 2, 61, 43, 182, 0, 160]
abbrev dktX4_line_0 : List UInt8 := dkwX4_line_0 ++ dktX4_line_1
theorem dksX4_line_0 : cX4_line.data.toList.drop 0 = dktX4_line_0 := by decide +kernel
theorem dksX4_line_1 : cX4_line.data.toList.drop 11 = dktX4_line_1 := dk_seg dksX4_line_0 11 rfl rfl
theorem dksX4_line_2 : cX4_line.data.toList.drop 100 = dktX4_line_2 := dk_seg dksX4_line_1 89 rfl rfl
theorem dksX4_line_3 : cX4_line.data.toList.drop 124 = dktX4_line_3 := dk_seg dksX4_line_2 24 rfl rfl
theorem dksX4_line_4 : cX4_line.data.toList.drop 148 = dktX4_line_4 := dk_seg dksX4_line_3 24 rfl rfl
theorem dksX4_line_5 : cX4_line.data.toList.drop 171 = dktX4_line_5 := dk_seg dksX4_line_4 23 rfl rfl
theorem dksX4_line_6 : cX4_line.data.toList.drop 195 = dktX4_line_6 := dk_seg dksX4_line_5 24 rfl rfl
theorem dksX4_line_7 : cX4_line.data.toList.drop 217 = dktX4_line_7 := dk_seg dksX4_line_6 22 rfl rfl
theorem dksX4_line_8 : cX4_line.data.toList.drop 241 = dktX4_line_8 := dk_seg dksX4_line_7 24 rfl rfl
theorem dksX4_line_9 : cX4_line.data.toList.drop 242 = dktX4_line_9 := dk_seg dksX4_line_8 1 rfl rfl
theorem dksX4_line_10 : cX4_line.data.toList.drop 296 = dktX4_line_10 := dk_seg dksX4_line_9 54 rfl rfl
theorem dksX4_line_11 : cX4_line.data.toList.drop 320 = dktX4_line_11 := dk_seg dksX4_line_10 24 rfl rfl
theorem dksX4_line_12 : cX4_line.data.toList.drop 344 = dktX4_line_12 := dk_seg dksX4_line_11 24 rfl rfl
theorem dksX4_line_13 : cX4_line.data.toList.drop 364 = dktX4_line_13 := dk_seg dksX4_line_12 20 rfl rfl
theorem dksX4_line_14 : cX4_line.data.toList.drop 388 = dktX4_line_14 := dk_seg dksX4_line_13 24 rfl rfl
theorem dksX4_line_15 : cX4_line.data.toList.drop 408 = dktX4_line_15 := dk_seg dksX4_line_14 20 rfl rfl
theorem dksX4_line_16 : cX4_line.data.toList.drop 431 = dktX4_line_16 := dk_seg dksX4_line_15 23 rfl rfl
theorem dksX4_line_17 : cX4_line.data.toList.drop 455 = dktX4_line_17 := dk_seg dksX4_line_16 24 rfl rfl
theorem dksX4_line_18 : cX4_line.data.toList.drop 479 = dktX4_line_18 := dk_seg dksX4_line_17 24 rfl rfl
theorem dksX4_line_19 : cX4_line.data.toList.drop 503 = dktX4_line_19 := dk_seg dksX4_line_18 24 rfl rfl
theorem dksX4_line_20 : cX4_line.data.toList.drop 527 = dktX4_line_20 := dk_seg dksX4_line_19 24 rfl rfl
theorem dksX4_line_21 : cX4_line.data.toList.drop 551 = dktX4_line_21 := dk_seg dksX4_line_20 24 rfl rfl
theorem dksX4_line_22 : cX4_line.data.toList.drop 575 = dktX4_line_22 := dk_seg dksX4_line_21 24 rfl rfl
theorem dksX4_line_23 : cX4_line.data.toList.drop 599 = dktX4_line_23 := dk_seg dksX4_line_22 24 rfl rfl
theorem dksX4_line_24 : cX4_line.data.toList.drop 622 = dktX4_line_24 := dk_seg dksX4_line_23 23 rfl rfl
theorem dksX4_line_25 : cX4_line.data.toList.drop 644 = dktX4_line_25 := dk_seg dksX4_line_24 22 rfl rfl
theorem dX4_line_0 : decode cX4_line 0 = .ok (.aload_n 0, 1) := dk_42 (dk_at dksX4_line_0 0 rfl rfl)
theorem dX4_line_1 : decode cX4_line 1 = .ok (.getfield 11, 3) := dk_180 0 11 (dk_at dksX4_line_0 1 rfl rfl)
theorem dX4_line_4 : decode cX4_line 4 = .ok (.astore_n 1, 1) := dk_76 (dk_at dksX4_line_0 4 rfl rfl)
theorem dX4_line_5 : decode cX4_line 5 = .ok (.iconst (-1), 1) := dk_2 (dk_at dksX4_line_0 5 rfl rfl)
theorem dX4_line_6 : decode cX4_line 6 = .ok (.istore_n 2, 1) := dk_61 (dk_at dksX4_line_0 6 rfl rfl)
theorem dX4_line_7 : decode cX4_line 7 = .ok (.aload_n 1, 1) := dk_43 (dk_at dksX4_line_0 7 rfl rfl)
theorem dX4_line_8 : decode cX4_line 8 = .ok (.invokevirtual 160, 3) := dk_182 0 160 (dk_at dksX4_line_0 8 rfl rfl)
theorem dX4_line_11 : decode cX4_line 11 = .ok (.lookupswitch 230 #[(-1274492040, 159), (-896505829, 117), (107868, 103), (108103, 89), (109935, 203), (3135100, 145), (3641802, 131), (3744684, 218), (94755854, 173), (109399597, 188)], 89) := by decide +kernel
theorem dX4_line_100 : decode cX4_line 100 = .ok (.aload_n 1, 1) := dk_43 (dk_at dksX4_line_2 0 rfl rfl)
theorem dX4_line_101 : decode cX4_line 101 = .ok (.ldc 163, 2) := dk_18 163 (dk_at dksX4_line_2 1 rfl rfl)
theorem dX4_line_103 : decode cX4_line 103 = .ok (.invokevirtual 88, 3) := dk_182 0 88 (dk_at dksX4_line_2 3 rfl rfl)
theorem dX4_line_106 : decode cX4_line 106 = .ok (.ifCond .eq 135, 3) := dk_153 0 135 (dk_at dksX4_line_2 6 rfl rfl)
theorem dX4_line_109 : decode cX4_line 109 = .ok (.iconst 0, 1) := dk_3 (dk_at dksX4_line_2 9 rfl rfl)
theorem dX4_line_110 : decode cX4_line 110 = .ok (.istore_n 2, 1) := dk_61 (dk_at dksX4_line_2 10 rfl rfl)
theorem dX4_line_111 : decode cX4_line 111 = .ok (.goto 130, 3) := dk_167 0 130 (dk_at dksX4_line_2 11 rfl rfl)
theorem dX4_line_114 : decode cX4_line 114 = .ok (.aload_n 1, 1) := dk_43 (dk_at dksX4_line_2 14 rfl rfl)
theorem dX4_line_115 : decode cX4_line 115 = .ok (.ldc 165, 2) := dk_18 165 (dk_at dksX4_line_2 15 rfl rfl)
theorem dX4_line_117 : decode cX4_line 117 = .ok (.invokevirtual 88, 3) := dk_182 0 88 (dk_at dksX4_line_2 17 rfl rfl)
theorem dX4_line_120 : decode cX4_line 120 = .ok (.ifCond .eq 121, 3) := dk_153 0 121 (dk_at dksX4_line_2 20 rfl rfl)
theorem dX4_line_123 : decode cX4_line 123 = .ok (.iconst 1, 1) := dk_4 (dk_at dksX4_line_2 23 rfl rfl)
theorem dX4_line_124 : decode cX4_line 124 = .ok (.istore_n 2, 1) := dk_61 (dk_at dksX4_line_3 0 rfl rfl)
theorem dX4_line_125 : decode cX4_line 125 = .ok (.goto 116, 3) := dk_167 0 116 (dk_at dksX4_line_3 1 rfl rfl)
theorem dX4_line_128 : decode cX4_line 128 = .ok (.aload_n 1, 1) := dk_43 (dk_at dksX4_line_3 4 rfl rfl)
theorem dX4_line_129 : decode cX4_line 129 = .ok (.ldc 167, 2) := dk_18 167 (dk_at dksX4_line_3 5 rfl rfl)
theorem dX4_line_131 : decode cX4_line 131 = .ok (.invokevirtual 88, 3) := dk_182 0 88 (dk_at dksX4_line_3 7 rfl rfl)
theorem dX4_line_134 : decode cX4_line 134 = .ok (.ifCond .eq 107, 3) := dk_153 0 107 (dk_at dksX4_line_3 10 rfl rfl)
theorem dX4_line_137 : decode cX4_line 137 = .ok (.iconst 2, 1) := dk_5 (dk_at dksX4_line_3 13 rfl rfl)
theorem dX4_line_138 : decode cX4_line 138 = .ok (.istore_n 2, 1) := dk_61 (dk_at dksX4_line_3 14 rfl rfl)
theorem dX4_line_139 : decode cX4_line 139 = .ok (.goto 102, 3) := dk_167 0 102 (dk_at dksX4_line_3 15 rfl rfl)
theorem dX4_line_142 : decode cX4_line 142 = .ok (.aload_n 1, 1) := dk_43 (dk_at dksX4_line_3 18 rfl rfl)
theorem dX4_line_143 : decode cX4_line 143 = .ok (.ldc 169, 2) := dk_18 169 (dk_at dksX4_line_3 19 rfl rfl)
theorem dX4_line_145 : decode cX4_line 145 = .ok (.invokevirtual 88, 3) := dk_182 0 88 (dk_at dksX4_line_3 21 rfl rfl)
theorem dX4_line_148 : decode cX4_line 148 = .ok (.ifCond .eq 93, 3) := dk_153 0 93 (dk_at dksX4_line_4 0 rfl rfl)
theorem dX4_line_151 : decode cX4_line 151 = .ok (.iconst 3, 1) := dk_6 (dk_at dksX4_line_4 3 rfl rfl)
theorem dX4_line_152 : decode cX4_line 152 = .ok (.istore_n 2, 1) := dk_61 (dk_at dksX4_line_4 4 rfl rfl)
theorem dX4_line_153 : decode cX4_line 153 = .ok (.goto 88, 3) := dk_167 0 88 (dk_at dksX4_line_4 5 rfl rfl)
theorem dX4_line_156 : decode cX4_line 156 = .ok (.aload_n 1, 1) := dk_43 (dk_at dksX4_line_4 8 rfl rfl)
theorem dX4_line_157 : decode cX4_line 157 = .ok (.ldc 171, 2) := dk_18 171 (dk_at dksX4_line_4 9 rfl rfl)
theorem dX4_line_159 : decode cX4_line 159 = .ok (.invokevirtual 88, 3) := dk_182 0 88 (dk_at dksX4_line_4 11 rfl rfl)
theorem dX4_line_162 : decode cX4_line 162 = .ok (.ifCond .eq 79, 3) := dk_153 0 79 (dk_at dksX4_line_4 14 rfl rfl)
theorem dX4_line_165 : decode cX4_line 165 = .ok (.iconst 4, 1) := dk_7 (dk_at dksX4_line_4 17 rfl rfl)
theorem dX4_line_166 : decode cX4_line 166 = .ok (.istore_n 2, 1) := dk_61 (dk_at dksX4_line_4 18 rfl rfl)
theorem dX4_line_167 : decode cX4_line 167 = .ok (.goto 74, 3) := dk_167 0 74 (dk_at dksX4_line_4 19 rfl rfl)
theorem dX4_line_170 : decode cX4_line 170 = .ok (.aload_n 1, 1) := dk_43 (dk_at dksX4_line_4 22 rfl rfl)
theorem dX4_line_171 : decode cX4_line 171 = .ok (.ldc 173, 2) := dk_18 173 (dk_at dksX4_line_5 0 rfl rfl)
theorem dX4_line_173 : decode cX4_line 173 = .ok (.invokevirtual 88, 3) := dk_182 0 88 (dk_at dksX4_line_5 2 rfl rfl)
theorem dX4_line_176 : decode cX4_line 176 = .ok (.ifCond .eq 65, 3) := dk_153 0 65 (dk_at dksX4_line_5 5 rfl rfl)
theorem dX4_line_179 : decode cX4_line 179 = .ok (.iconst 5, 1) := dk_8 (dk_at dksX4_line_5 8 rfl rfl)
theorem dX4_line_180 : decode cX4_line 180 = .ok (.istore_n 2, 1) := dk_61 (dk_at dksX4_line_5 9 rfl rfl)
theorem dX4_line_181 : decode cX4_line 181 = .ok (.goto 60, 3) := dk_167 0 60 (dk_at dksX4_line_5 10 rfl rfl)
theorem dX4_line_184 : decode cX4_line 184 = .ok (.aload_n 1, 1) := dk_43 (dk_at dksX4_line_5 13 rfl rfl)
theorem dX4_line_185 : decode cX4_line 185 = .ok (.ldc 175, 2) := dk_18 175 (dk_at dksX4_line_5 14 rfl rfl)
theorem dX4_line_187 : decode cX4_line 187 = .ok (.invokevirtual 88, 3) := dk_182 0 88 (dk_at dksX4_line_5 16 rfl rfl)
theorem dX4_line_190 : decode cX4_line 190 = .ok (.ifCond .eq 51, 3) := dk_153 0 51 (dk_at dksX4_line_5 19 rfl rfl)
theorem dX4_line_193 : decode cX4_line 193 = .ok (.bipush 6, 2) := dk_16 6 (dk_at dksX4_line_5 22 rfl rfl)
theorem dX4_line_195 : decode cX4_line 195 = .ok (.istore_n 2, 1) := dk_61 (dk_at dksX4_line_6 0 rfl rfl)
theorem dX4_line_196 : decode cX4_line 196 = .ok (.goto 45, 3) := dk_167 0 45 (dk_at dksX4_line_6 1 rfl rfl)
theorem dX4_line_199 : decode cX4_line 199 = .ok (.aload_n 1, 1) := dk_43 (dk_at dksX4_line_6 4 rfl rfl)
theorem dX4_line_200 : decode cX4_line 200 = .ok (.ldc 177, 2) := dk_18 177 (dk_at dksX4_line_6 5 rfl rfl)
theorem dX4_line_202 : decode cX4_line 202 = .ok (.invokevirtual 88, 3) := dk_182 0 88 (dk_at dksX4_line_6 7 rfl rfl)
theorem dX4_line_205 : decode cX4_line 205 = .ok (.ifCond .eq 36, 3) := dk_153 0 36 (dk_at dksX4_line_6 10 rfl rfl)
theorem dX4_line_208 : decode cX4_line 208 = .ok (.bipush 7, 2) := dk_16 7 (dk_at dksX4_line_6 13 rfl rfl)
theorem dX4_line_210 : decode cX4_line 210 = .ok (.istore_n 2, 1) := dk_61 (dk_at dksX4_line_6 15 rfl rfl)
theorem dX4_line_211 : decode cX4_line 211 = .ok (.goto 30, 3) := dk_167 0 30 (dk_at dksX4_line_6 16 rfl rfl)
theorem dX4_line_214 : decode cX4_line 214 = .ok (.aload_n 1, 1) := dk_43 (dk_at dksX4_line_6 19 rfl rfl)
theorem dX4_line_215 : decode cX4_line 215 = .ok (.ldc 179, 2) := dk_18 179 (dk_at dksX4_line_6 20 rfl rfl)
theorem dX4_line_217 : decode cX4_line 217 = .ok (.invokevirtual 88, 3) := dk_182 0 88 (dk_at dksX4_line_7 0 rfl rfl)
theorem dX4_line_220 : decode cX4_line 220 = .ok (.ifCond .eq 21, 3) := dk_153 0 21 (dk_at dksX4_line_7 3 rfl rfl)
theorem dX4_line_223 : decode cX4_line 223 = .ok (.bipush 8, 2) := dk_16 8 (dk_at dksX4_line_7 6 rfl rfl)
theorem dX4_line_225 : decode cX4_line 225 = .ok (.istore_n 2, 1) := dk_61 (dk_at dksX4_line_7 8 rfl rfl)
theorem dX4_line_226 : decode cX4_line 226 = .ok (.goto 15, 3) := dk_167 0 15 (dk_at dksX4_line_7 9 rfl rfl)
theorem dX4_line_229 : decode cX4_line 229 = .ok (.aload_n 1, 1) := dk_43 (dk_at dksX4_line_7 12 rfl rfl)
theorem dX4_line_230 : decode cX4_line 230 = .ok (.ldc 181, 2) := dk_18 181 (dk_at dksX4_line_7 13 rfl rfl)
theorem dX4_line_232 : decode cX4_line 232 = .ok (.invokevirtual 88, 3) := dk_182 0 88 (dk_at dksX4_line_7 15 rfl rfl)
theorem dX4_line_235 : decode cX4_line 235 = .ok (.ifCond .eq 6, 3) := dk_153 0 6 (dk_at dksX4_line_7 18 rfl rfl)
theorem dX4_line_238 : decode cX4_line 238 = .ok (.bipush 9, 2) := dk_16 9 (dk_at dksX4_line_7 21 rfl rfl)
theorem dX4_line_240 : decode cX4_line 240 = .ok (.istore_n 2, 1) := dk_61 (dk_at dksX4_line_7 23 rfl rfl)
theorem dX4_line_241 : decode cX4_line 241 = .ok (.iload_n 2, 1) := dk_28 (dk_at dksX4_line_8 0 rfl rfl)
theorem dX4_line_242 : decode cX4_line 242 = .ok (.tableswitch 408 0 9 #[54, 131, 158, 192, 259, 297, 325, 336, 364, 375], 54) := by decide +kernel
theorem dX4_line_296 : decode cX4_line 296 = .ok (.aload_n 0, 1) := dk_42 (dk_at dksX4_line_10 0 rfl rfl)
theorem dX4_line_297 : decode cX4_line 297 = .ok (.aload_n 0, 1) := dk_42 (dk_at dksX4_line_10 1 rfl rfl)
theorem dX4_line_298 : decode cX4_line 298 = .ok (.getfield 20, 3) := dk_180 0 20 (dk_at dksX4_line_10 2 rfl rfl)
theorem dX4_line_301 : decode cX4_line 301 = .ok (.getfield 146, 3) := dk_180 0 146 (dk_at dksX4_line_10 5 rfl rfl)
theorem dX4_line_304 : decode cX4_line 304 = .ok (.invokeinterface 183 1, 5) := by decide +kernel
theorem dX4_line_309 : decode cX4_line 309 = .ok (.bipush 12, 2) := dk_16 12 (dk_at dksX4_line_10 13 rfl rfl)
theorem dX4_line_311 : decode cX4_line 311 = .ok (.if_icmp .ne 7, 3) := dk_160 0 7 (dk_at dksX4_line_10 15 rfl rfl)
theorem dX4_line_314 : decode cX4_line 314 = .ok (.iconst 1, 1) := dk_4 (dk_at dksX4_line_10 18 rfl rfl)
theorem dX4_line_315 : decode cX4_line 315 = .ok (.goto 4, 3) := dk_167 0 4 (dk_at dksX4_line_10 19 rfl rfl)
theorem dX4_line_318 : decode cX4_line 318 = .ok (.iconst 0, 1) := dk_3 (dk_at dksX4_line_10 22 rfl rfl)
theorem dX4_line_319 : decode cX4_line 319 = .ok (.iconst 4, 1) := dk_7 (dk_at dksX4_line_10 23 rfl rfl)
theorem dX4_line_320 : decode cX4_line 320 = .ok (.invokevirtual 186, 3) := dk_182 0 186 (dk_at dksX4_line_11 0 rfl rfl)
theorem dX4_line_323 : decode cX4_line 323 = .ok (.aload_n 0, 1) := dk_42 (dk_at dksX4_line_11 3 rfl rfl)
theorem dX4_line_324 : decode cX4_line 324 = .ok (.sipush 500, 3) := dk_17 1 244 (dk_at dksX4_line_11 4 rfl rfl)
theorem dX4_line_327 : decode cX4_line 327 = .ok (.invokevirtual 190, 3) := dk_182 0 190 (dk_at dksX4_line_11 7 rfl rfl)
theorem dX4_line_330 : decode cX4_line 330 = .ok (.istore_n 3, 1) := dk_62 (dk_at dksX4_line_11 10 rfl rfl)
theorem dX4_line_331 : decode cX4_line 331 = .ok (.aload_n 0, 1) := dk_42 (dk_at dksX4_line_11 11 rfl rfl)
theorem dX4_line_332 : decode cX4_line 332 = .ok (.sipush 500, 3) := dk_17 1 244 (dk_at dksX4_line_11 12 rfl rfl)
theorem dX4_line_335 : decode cX4_line 335 = .ok (.invokevirtual 190, 3) := dk_182 0 190 (dk_at dksX4_line_11 15 rfl rfl)
theorem dX4_line_338 : decode cX4_line 338 = .ok (.istore 4, 2) := dk_54 4 (dk_at dksX4_line_11 18 rfl rfl)
theorem dX4_line_340 : decode cX4_line 340 = .ok (.aload_n 0, 1) := dk_42 (dk_at dksX4_line_11 20 rfl rfl)
theorem dX4_line_341 : decode cX4_line 341 = .ok (.getfield 20, 3) := dk_180 0 20 (dk_at dksX4_line_11 21 rfl rfl)
theorem dX4_line_344 : decode cX4_line 344 = .ok (.getfield 146, 3) := dk_180 0 146 (dk_at dksX4_line_12 0 rfl rfl)
theorem dX4_line_347 : decode cX4_line 347 = .ok (.new 193, 3) := dk_187 0 193 (dk_at dksX4_line_12 3 rfl rfl)
theorem dX4_line_350 : decode cX4_line 350 = .ok (.dup, 1) := dk_89 (dk_at dksX4_line_12 6 rfl rfl)
theorem dX4_line_351 : decode cX4_line 351 = .ok (.iload_n 3, 1) := dk_29 (dk_at dksX4_line_12 7 rfl rfl)
theorem dX4_line_352 : decode cX4_line 352 = .ok (.iload 4, 2) := dk_21 4 (dk_at dksX4_line_12 8 rfl rfl)
theorem dX4_line_354 : decode cX4_line 354 = .ok (.aload_n 0, 1) := dk_42 (dk_at dksX4_line_12 10 rfl rfl)
theorem dX4_line_355 : decode cX4_line 355 = .ok (.iconst 1, 1) := dk_4 (dk_at dksX4_line_12 11 rfl rfl)
theorem dX4_line_356 : decode cX4_line 356 = .ok (.bipush 9, 2) := dk_16 9 (dk_at dksX4_line_12 12 rfl rfl)
theorem dX4_line_358 : decode cX4_line 358 = .ok (.invokevirtual 116, 3) := dk_182 0 116 (dk_at dksX4_line_12 14 rfl rfl)
theorem dX4_line_361 : decode cX4_line 361 = .ok (.invokespecial 195, 3) := dk_183 0 195 (dk_at dksX4_line_12 17 rfl rfl)
theorem dX4_line_364 : decode cX4_line 364 = .ok (.invokeinterface 198 2, 5) := by decide +kernel
theorem dX4_line_369 : decode cX4_line 369 = .ok (.pop, 1) := dk_87 (dk_at dksX4_line_13 5 rfl rfl)
theorem dX4_line_370 : decode cX4_line 370 = .ok (.goto 286, 3) := dk_167 1 30 (dk_at dksX4_line_13 6 rfl rfl)
theorem dX4_line_373 : decode cX4_line 373 = .ok (.aload_n 0, 1) := dk_42 (dk_at dksX4_line_13 9 rfl rfl)
theorem dX4_line_374 : decode cX4_line 374 = .ok (.aload_n 0, 1) := dk_42 (dk_at dksX4_line_13 10 rfl rfl)
theorem dX4_line_375 : decode cX4_line 375 = .ok (.getfield 20, 3) := dk_180 0 20 (dk_at dksX4_line_13 11 rfl rfl)
theorem dX4_line_378 : decode cX4_line 378 = .ok (.invokevirtual 153, 3) := dk_182 0 153 (dk_at dksX4_line_13 14 rfl rfl)
theorem dX4_line_381 : decode cX4_line 381 = .ok (.ifCond .le 7, 3) := dk_158 0 7 (dk_at dksX4_line_13 17 rfl rfl)
theorem dX4_line_384 : decode cX4_line 384 = .ok (.iconst 1, 1) := dk_4 (dk_at dksX4_line_13 20 rfl rfl)
theorem dX4_line_385 : decode cX4_line 385 = .ok (.goto 4, 3) := dk_167 0 4 (dk_at dksX4_line_13 21 rfl rfl)
theorem dX4_line_388 : decode cX4_line 388 = .ok (.iconst 0, 1) := dk_3 (dk_at dksX4_line_14 0 rfl rfl)
theorem dX4_line_389 : decode cX4_line 389 = .ok (.iconst 3, 1) := dk_6 (dk_at dksX4_line_14 1 rfl rfl)
theorem dX4_line_390 : decode cX4_line 390 = .ok (.invokevirtual 186, 3) := dk_182 0 186 (dk_at dksX4_line_14 2 rfl rfl)
theorem dX4_line_393 : decode cX4_line 393 = .ok (.aload_n 0, 1) := dk_42 (dk_at dksX4_line_14 5 rfl rfl)
theorem dX4_line_394 : decode cX4_line 394 = .ok (.invokevirtual 201, 3) := dk_182 0 201 (dk_at dksX4_line_14 6 rfl rfl)
theorem dX4_line_397 : decode cX4_line 397 = .ok (.goto 259, 3) := dk_167 1 3 (dk_at dksX4_line_14 9 rfl rfl)
theorem dX4_line_400 : decode cX4_line 400 = .ok (.aload_n 0, 1) := dk_42 (dk_at dksX4_line_14 12 rfl rfl)
theorem dX4_line_401 : decode cX4_line 401 = .ok (.aload_n 0, 1) := dk_42 (dk_at dksX4_line_14 13 rfl rfl)
theorem dX4_line_402 : decode cX4_line 402 = .ok (.getfield 20, 3) := dk_180 0 20 (dk_at dksX4_line_14 14 rfl rfl)
theorem dX4_line_405 : decode cX4_line 405 = .ok (.getfield 203, 3) := dk_180 0 203 (dk_at dksX4_line_14 17 rfl rfl)
theorem dX4_line_408 : decode cX4_line 408 = .ok (.invokeinterface 183 1, 5) := by decide +kernel
theorem dX4_line_413 : decode cX4_line 413 = .ok (.bipush 6, 2) := dk_16 6 (dk_at dksX4_line_15 5 rfl rfl)
theorem dX4_line_415 : decode cX4_line 415 = .ok (.if_icmp .ne 7, 3) := dk_160 0 7 (dk_at dksX4_line_15 7 rfl rfl)
theorem dX4_line_418 : decode cX4_line 418 = .ok (.iconst 1, 1) := dk_4 (dk_at dksX4_line_15 10 rfl rfl)
theorem dX4_line_419 : decode cX4_line 419 = .ok (.goto 4, 3) := dk_167 0 4 (dk_at dksX4_line_15 11 rfl rfl)
theorem dX4_line_422 : decode cX4_line 422 = .ok (.iconst 0, 1) := dk_3 (dk_at dksX4_line_15 14 rfl rfl)
theorem dX4_line_423 : decode cX4_line 423 = .ok (.iconst 4, 1) := dk_7 (dk_at dksX4_line_15 15 rfl rfl)
theorem dX4_line_424 : decode cX4_line 424 = .ok (.invokevirtual 186, 3) := dk_182 0 186 (dk_at dksX4_line_15 16 rfl rfl)
theorem dX4_line_427 : decode cX4_line 427 = .ok (.aload_n 0, 1) := dk_42 (dk_at dksX4_line_15 19 rfl rfl)
theorem dX4_line_428 : decode cX4_line 428 = .ok (.invokevirtual 206, 3) := dk_182 0 206 (dk_at dksX4_line_15 20 rfl rfl)
theorem dX4_line_431 : decode cX4_line 431 = .ok (.goto 225, 3) := dk_167 0 225 (dk_at dksX4_line_16 0 rfl rfl)
theorem dX4_line_434 : decode cX4_line 434 = .ok (.aload_n 0, 1) := dk_42 (dk_at dksX4_line_16 3 rfl rfl)
theorem dX4_line_435 : decode cX4_line 435 = .ok (.aload_n 0, 1) := dk_42 (dk_at dksX4_line_16 4 rfl rfl)
theorem dX4_line_436 : decode cX4_line 436 = .ok (.getfield 20, 3) := dk_180 0 20 (dk_at dksX4_line_16 5 rfl rfl)
theorem dX4_line_439 : decode cX4_line 439 = .ok (.getfield 208, 3) := dk_180 0 208 (dk_at dksX4_line_16 8 rfl rfl)
theorem dX4_line_442 : decode cX4_line 442 = .ok (.invokeinterface 183 1, 5) := by decide +kernel
theorem dX4_line_447 : decode cX4_line 447 = .ok (.iconst 2, 1) := dk_5 (dk_at dksX4_line_16 16 rfl rfl)
theorem dX4_line_448 : decode cX4_line 448 = .ok (.if_icmp .ne 7, 3) := dk_160 0 7 (dk_at dksX4_line_16 17 rfl rfl)
theorem dX4_line_451 : decode cX4_line 451 = .ok (.iconst 1, 1) := dk_4 (dk_at dksX4_line_16 20 rfl rfl)
theorem dX4_line_452 : decode cX4_line 452 = .ok (.goto 4, 3) := dk_167 0 4 (dk_at dksX4_line_16 21 rfl rfl)
theorem dX4_line_455 : decode cX4_line 455 = .ok (.iconst 0, 1) := dk_3 (dk_at dksX4_line_17 0 rfl rfl)
theorem dX4_line_456 : decode cX4_line 456 = .ok (.iconst 4, 1) := dk_7 (dk_at dksX4_line_17 1 rfl rfl)
theorem dX4_line_457 : decode cX4_line 457 = .ok (.invokevirtual 186, 3) := dk_182 0 186 (dk_at dksX4_line_17 2 rfl rfl)
theorem dX4_line_460 : decode cX4_line 460 = .ok (.aload_n 0, 1) := dk_42 (dk_at dksX4_line_17 5 rfl rfl)
theorem dX4_line_461 : decode cX4_line 461 = .ok (.sipush 2000, 3) := dk_17 7 208 (dk_at dksX4_line_17 6 rfl rfl)
theorem dX4_line_464 : decode cX4_line 464 = .ok (.invokevirtual 190, 3) := dk_182 0 190 (dk_at dksX4_line_17 9 rfl rfl)
theorem dX4_line_467 : decode cX4_line 467 = .ok (.istore 5, 2) := dk_54 5 (dk_at dksX4_line_17 12 rfl rfl)
theorem dX4_line_469 : decode cX4_line 469 = .ok (.aload_n 0, 1) := dk_42 (dk_at dksX4_line_17 14 rfl rfl)
theorem dX4_line_470 : decode cX4_line 470 = .ok (.getfield 20, 3) := dk_180 0 20 (dk_at dksX4_line_17 15 rfl rfl)
theorem dX4_line_473 : decode cX4_line 473 = .ok (.getfield 208, 3) := dk_180 0 208 (dk_at dksX4_line_17 18 rfl rfl)
theorem dX4_line_476 : decode cX4_line 476 = .ok (.new 211, 3) := dk_187 0 211 (dk_at dksX4_line_17 21 rfl rfl)
theorem dX4_line_479 : decode cX4_line 479 = .ok (.dup, 1) := dk_89 (dk_at dksX4_line_18 0 rfl rfl)
theorem dX4_line_480 : decode cX4_line 480 = .ok (.iload 5, 2) := dk_21 5 (dk_at dksX4_line_18 1 rfl rfl)
theorem dX4_line_482 : decode cX4_line 482 = .ok (.aload_n 0, 1) := dk_42 (dk_at dksX4_line_18 3 rfl rfl)
theorem dX4_line_483 : decode cX4_line 483 = .ok (.iconst 1, 1) := dk_4 (dk_at dksX4_line_18 4 rfl rfl)
theorem dX4_line_484 : decode cX4_line 484 = .ok (.bipush 100, 2) := dk_16 100 (dk_at dksX4_line_18 5 rfl rfl)
theorem dX4_line_486 : decode cX4_line 486 = .ok (.invokevirtual 116, 3) := dk_182 0 116 (dk_at dksX4_line_18 7 rfl rfl)
theorem dX4_line_489 : decode cX4_line 489 = .ok (.invokespecial 213, 3) := dk_183 0 213 (dk_at dksX4_line_18 10 rfl rfl)
theorem dX4_line_492 : decode cX4_line 492 = .ok (.invokeinterface 198 2, 5) := by decide +kernel
theorem dX4_line_497 : decode cX4_line 497 = .ok (.pop, 1) := dk_87 (dk_at dksX4_line_18 18 rfl rfl)
theorem dX4_line_498 : decode cX4_line 498 = .ok (.goto 158, 3) := dk_167 0 158 (dk_at dksX4_line_18 19 rfl rfl)
theorem dX4_line_501 : decode cX4_line 501 = .ok (.aload_n 0, 1) := dk_42 (dk_at dksX4_line_18 22 rfl rfl)
theorem dX4_line_502 : decode cX4_line 502 = .ok (.aload_n 0, 1) := dk_42 (dk_at dksX4_line_18 23 rfl rfl)
theorem dX4_line_503 : decode cX4_line 503 = .ok (.getfield 20, 3) := dk_180 0 20 (dk_at dksX4_line_19 0 rfl rfl)
theorem dX4_line_506 : decode cX4_line 506 = .ok (.getfield 214, 3) := dk_180 0 214 (dk_at dksX4_line_19 3 rfl rfl)
theorem dX4_line_509 : decode cX4_line 509 = .ok (.ifCond .le 7, 3) := dk_158 0 7 (dk_at dksX4_line_19 6 rfl rfl)
theorem dX4_line_512 : decode cX4_line 512 = .ok (.iconst 1, 1) := dk_4 (dk_at dksX4_line_19 9 rfl rfl)
theorem dX4_line_513 : decode cX4_line 513 = .ok (.goto 4, 3) := dk_167 0 4 (dk_at dksX4_line_19 10 rfl rfl)
theorem dX4_line_516 : decode cX4_line 516 = .ok (.iconst 0, 1) := dk_3 (dk_at dksX4_line_19 13 rfl rfl)
theorem dX4_line_517 : decode cX4_line 517 = .ok (.iconst 3, 1) := dk_6 (dk_at dksX4_line_19 14 rfl rfl)
theorem dX4_line_518 : decode cX4_line 518 = .ok (.invokevirtual 186, 3) := dk_182 0 186 (dk_at dksX4_line_19 15 rfl rfl)
theorem dX4_line_521 : decode cX4_line 521 = .ok (.aload_n 0, 1) := dk_42 (dk_at dksX4_line_19 18 rfl rfl)
theorem dX4_line_522 : decode cX4_line 522 = .ok (.getfield 20, 3) := dk_180 0 20 (dk_at dksX4_line_19 19 rfl rfl)
theorem dX4_line_525 : decode cX4_line 525 = .ok (.aload_n 0, 1) := dk_42 (dk_at dksX4_line_19 22 rfl rfl)
theorem dX4_line_526 : decode cX4_line 526 = .ok (.iconst 1, 1) := dk_4 (dk_at dksX4_line_19 23 rfl rfl)
theorem dX4_line_527 : decode cX4_line 527 = .ok (.sipush 999, 3) := dk_17 3 231 (dk_at dksX4_line_20 0 rfl rfl)
theorem dX4_line_530 : decode cX4_line 530 = .ok (.invokevirtual 116, 3) := dk_182 0 116 (dk_at dksX4_line_20 3 rfl rfl)
theorem dX4_line_533 : decode cX4_line 533 = .ok (.putfield 214, 3) := dk_181 0 214 (dk_at dksX4_line_20 6 rfl rfl)
theorem dX4_line_536 : decode cX4_line 536 = .ok (.goto 120, 3) := dk_167 0 120 (dk_at dksX4_line_20 9 rfl rfl)
theorem dX4_line_539 : decode cX4_line 539 = .ok (.aload_n 0, 1) := dk_42 (dk_at dksX4_line_20 12 rfl rfl)
theorem dX4_line_540 : decode cX4_line 540 = .ok (.aload_n 0, 1) := dk_42 (dk_at dksX4_line_20 13 rfl rfl)
theorem dX4_line_541 : decode cX4_line 541 = .ok (.getfield 20, 3) := dk_180 0 20 (dk_at dksX4_line_20 14 rfl rfl)
theorem dX4_line_544 : decode cX4_line 544 = .ok (.getfield 216, 3) := dk_180 0 216 (dk_at dksX4_line_20 17 rfl rfl)
theorem dX4_line_547 : decode cX4_line 547 = .ok (.arraylength, 1) := dk_190 (dk_at dksX4_line_20 20 rfl rfl)
theorem dX4_line_548 : decode cX4_line 548 = .ok (.ifCond .le 7, 3) := dk_158 0 7 (dk_at dksX4_line_20 21 rfl rfl)
theorem dX4_line_551 : decode cX4_line 551 = .ok (.iconst 1, 1) := dk_4 (dk_at dksX4_line_21 0 rfl rfl)
theorem dX4_line_552 : decode cX4_line 552 = .ok (.goto 4, 3) := dk_167 0 4 (dk_at dksX4_line_21 1 rfl rfl)
theorem dX4_line_555 : decode cX4_line 555 = .ok (.iconst 0, 1) := dk_3 (dk_at dksX4_line_21 4 rfl rfl)
theorem dX4_line_556 : decode cX4_line 556 = .ok (.iconst 3, 1) := dk_6 (dk_at dksX4_line_21 5 rfl rfl)
theorem dX4_line_557 : decode cX4_line 557 = .ok (.invokevirtual 186, 3) := dk_182 0 186 (dk_at dksX4_line_21 6 rfl rfl)
theorem dX4_line_560 : decode cX4_line 560 = .ok (.aload_n 0, 1) := dk_42 (dk_at dksX4_line_21 9 rfl rfl)
theorem dX4_line_561 : decode cX4_line 561 = .ok (.invokevirtual 219, 3) := dk_182 0 219 (dk_at dksX4_line_21 10 rfl rfl)
theorem dX4_line_564 : decode cX4_line 564 = .ok (.goto 92, 3) := dk_167 0 92 (dk_at dksX4_line_21 13 rfl rfl)
theorem dX4_line_567 : decode cX4_line 567 = .ok (.aload_n 0, 1) := dk_42 (dk_at dksX4_line_21 16 rfl rfl)
theorem dX4_line_568 : decode cX4_line 568 = .ok (.invokevirtual 98, 3) := dk_182 0 98 (dk_at dksX4_line_21 17 rfl rfl)
theorem dX4_line_571 : decode cX4_line 571 = .ok (.aload_n 0, 1) := dk_42 (dk_at dksX4_line_21 20 rfl rfl)
theorem dX4_line_572 : decode cX4_line 572 = .ok (.invokevirtual 221, 3) := dk_182 0 221 (dk_at dksX4_line_21 21 rfl rfl)
theorem dX4_line_575 : decode cX4_line 575 = .ok (.goto 81, 3) := dk_167 0 81 (dk_at dksX4_line_22 0 rfl rfl)
theorem dX4_line_578 : decode cX4_line 578 = .ok (.aload_n 0, 1) := dk_42 (dk_at dksX4_line_22 3 rfl rfl)
theorem dX4_line_579 : decode cX4_line 579 = .ok (.aload_n 0, 1) := dk_42 (dk_at dksX4_line_22 4 rfl rfl)
theorem dX4_line_580 : decode cX4_line 580 = .ok (.getfield 20, 3) := dk_180 0 20 (dk_at dksX4_line_22 5 rfl rfl)
theorem dX4_line_583 : decode cX4_line 583 = .ok (.getfield 223, 3) := dk_180 0 223 (dk_at dksX4_line_22 8 rfl rfl)
theorem dX4_line_586 : decode cX4_line 586 = .ok (.arraylength, 1) := dk_190 (dk_at dksX4_line_22 11 rfl rfl)
theorem dX4_line_587 : decode cX4_line 587 = .ok (.ifCond .le 7, 3) := dk_158 0 7 (dk_at dksX4_line_22 12 rfl rfl)
theorem dX4_line_590 : decode cX4_line 590 = .ok (.iconst 1, 1) := dk_4 (dk_at dksX4_line_22 15 rfl rfl)
theorem dX4_line_591 : decode cX4_line 591 = .ok (.goto 4, 3) := dk_167 0 4 (dk_at dksX4_line_22 16 rfl rfl)
theorem dX4_line_594 : decode cX4_line 594 = .ok (.iconst 0, 1) := dk_3 (dk_at dksX4_line_22 19 rfl rfl)
theorem dX4_line_595 : decode cX4_line 595 = .ok (.iconst 3, 1) := dk_6 (dk_at dksX4_line_22 20 rfl rfl)
theorem dX4_line_596 : decode cX4_line 596 = .ok (.invokevirtual 186, 3) := dk_182 0 186 (dk_at dksX4_line_22 21 rfl rfl)
theorem dX4_line_599 : decode cX4_line 599 = .ok (.aload_n 0, 1) := dk_42 (dk_at dksX4_line_23 0 rfl rfl)
theorem dX4_line_600 : decode cX4_line 600 = .ok (.invokevirtual 225, 3) := dk_182 0 225 (dk_at dksX4_line_23 1 rfl rfl)
theorem dX4_line_603 : decode cX4_line 603 = .ok (.goto 53, 3) := dk_167 0 53 (dk_at dksX4_line_23 4 rfl rfl)
theorem dX4_line_606 : decode cX4_line 606 = .ok (.aload_n 0, 1) := dk_42 (dk_at dksX4_line_23 7 rfl rfl)
theorem dX4_line_607 : decode cX4_line 607 = .ok (.invokevirtual 98, 3) := dk_182 0 98 (dk_at dksX4_line_23 8 rfl rfl)
theorem dX4_line_610 : decode cX4_line 610 = .ok (.aload_n 0, 1) := dk_42 (dk_at dksX4_line_23 11 rfl rfl)
theorem dX4_line_611 : decode cX4_line 611 = .ok (.invokevirtual 227, 3) := dk_182 0 227 (dk_at dksX4_line_23 12 rfl rfl)
theorem dX4_line_614 : decode cX4_line 614 = .ok (.goto 42, 3) := dk_167 0 42 (dk_at dksX4_line_23 15 rfl rfl)
theorem dX4_line_617 : decode cX4_line 617 = .ok (.aload_n 0, 1) := dk_42 (dk_at dksX4_line_23 18 rfl rfl)
theorem dX4_line_618 : decode cX4_line 618 = .ok (.aload_n 0, 1) := dk_42 (dk_at dksX4_line_23 19 rfl rfl)
theorem dX4_line_619 : decode cX4_line 619 = .ok (.getfield 20, 3) := dk_180 0 20 (dk_at dksX4_line_23 20 rfl rfl)
theorem dX4_line_622 : decode cX4_line 622 = .ok (.getfield 229, 3) := dk_180 0 229 (dk_at dksX4_line_24 0 rfl rfl)
theorem dX4_line_625 : decode cX4_line 625 = .ok (.invokeinterface 183 1, 5) := by decide +kernel
theorem dX4_line_630 : decode cX4_line 630 = .ok (.iconst 4, 1) := dk_7 (dk_at dksX4_line_24 8 rfl rfl)
theorem dX4_line_631 : decode cX4_line 631 = .ok (.if_icmp .ne 7, 3) := dk_160 0 7 (dk_at dksX4_line_24 9 rfl rfl)
theorem dX4_line_634 : decode cX4_line 634 = .ok (.iconst 1, 1) := dk_4 (dk_at dksX4_line_24 12 rfl rfl)
theorem dX4_line_635 : decode cX4_line 635 = .ok (.goto 4, 3) := dk_167 0 4 (dk_at dksX4_line_24 13 rfl rfl)
theorem dX4_line_638 : decode cX4_line 638 = .ok (.iconst 0, 1) := dk_3 (dk_at dksX4_line_24 16 rfl rfl)
theorem dX4_line_639 : decode cX4_line 639 = .ok (.iconst 4, 1) := dk_7 (dk_at dksX4_line_24 17 rfl rfl)
theorem dX4_line_640 : decode cX4_line 640 = .ok (.invokevirtual 186, 3) := dk_182 0 186 (dk_at dksX4_line_24 18 rfl rfl)
theorem dX4_line_643 : decode cX4_line 643 = .ok (.aload_n 0, 1) := dk_42 (dk_at dksX4_line_24 21 rfl rfl)
theorem dX4_line_644 : decode cX4_line 644 = .ok (.invokevirtual 232, 3) := dk_182 0 232 (dk_at dksX4_line_25 0 rfl rfl)
theorem dX4_line_647 : decode cX4_line 647 = .ok (.goto 9, 3) := dk_167 0 9 (dk_at dksX4_line_25 3 rfl rfl)
theorem dX4_line_650 : decode cX4_line 650 = .ok (.aload_n 0, 1) := dk_42 (dk_at dksX4_line_25 6 rfl rfl)
theorem dX4_line_651 : decode cX4_line 651 = .ok (.iconst 1, 1) := dk_4 (dk_at dksX4_line_25 7 rfl rfl)
theorem dX4_line_652 : decode cX4_line 652 = .ok (.invokevirtual 104, 3) := dk_182 0 104 (dk_at dksX4_line_25 8 rfl rfl)
theorem dX4_line_655 : decode cX4_line 655 = .ok (.athrow, 1) := dk_191 (dk_at dksX4_line_25 11 rfl rfl)
theorem dX4_line_656 : decode cX4_line 656 = .ok (.return_, 1) := dk_177 (dk_at dksX4_line_25 12 rfl rfl)
abbrev cX4_begin : ByteArray := prog_5_method_14_code
def yX4_begin : MethodName := ⟨RX4, "begin", "(ZI)V"⟩
def dkwX4_begin_0 : List UInt8 := [27, 153, 0, 9, 42, 28, 182, 0, 104, 191, 42, 182, 0, 98, 177]
abbrev dktX4_begin_0 : List UInt8 := dkwX4_begin_0 ++ []
theorem dksX4_begin_0 : cX4_begin.data.toList.drop 0 = dktX4_begin_0 := by decide +kernel
theorem dX4_begin_0 : decode cX4_begin 0 = .ok (.iload_n 1, 1) := dk_27 (dk_at dksX4_begin_0 0 rfl rfl)
theorem dX4_begin_1 : decode cX4_begin 1 = .ok (.ifCond .eq 9, 3) := dk_153 0 9 (dk_at dksX4_begin_0 1 rfl rfl)
theorem dX4_begin_4 : decode cX4_begin 4 = .ok (.aload_n 0, 1) := dk_42 (dk_at dksX4_begin_0 4 rfl rfl)
theorem dX4_begin_5 : decode cX4_begin 5 = .ok (.iload_n 2, 1) := dk_28 (dk_at dksX4_begin_0 5 rfl rfl)
theorem dX4_begin_6 : decode cX4_begin 6 = .ok (.invokevirtual 104, 3) := dk_182 0 104 (dk_at dksX4_begin_0 6 rfl rfl)
theorem dX4_begin_9 : decode cX4_begin 9 = .ok (.athrow, 1) := dk_191 (dk_at dksX4_begin_0 9 rfl rfl)
theorem dX4_begin_10 : decode cX4_begin 10 = .ok (.aload_n 0, 1) := dk_42 (dk_at dksX4_begin_0 10 rfl rfl)
theorem dX4_begin_11 : decode cX4_begin 11 = .ok (.invokevirtual 98, 3) := dk_182 0 98 (dk_at dksX4_begin_0 11 rfl rfl)
theorem dX4_begin_14 : decode cX4_begin 14 = .ok (.return_, 1) := dk_177 (dk_at dksX4_begin_0 14 rfl rfl)
abbrev cX4_signed : ByteArray := prog_5_method_11_code
def yX4_signed : MethodName := ⟨RX4, "signed", "(I)I"⟩
def dkwX4_signed_0 : List UInt8 := [42, 42, 18, 81, 182, 0, 101, 153, 0, 7, 2, 167, 0, 4, 4, 27, 116, 27, 182, 0, 108, 172]
abbrev dktX4_signed_0 : List UInt8 := dkwX4_signed_0 ++ []
theorem dksX4_signed_0 : cX4_signed.data.toList.drop 0 = dktX4_signed_0 := by decide +kernel
theorem dX4_signed_0 : decode cX4_signed 0 = .ok (.aload_n 0, 1) := dk_42 (dk_at dksX4_signed_0 0 rfl rfl)
theorem dX4_signed_1 : decode cX4_signed 1 = .ok (.aload_n 0, 1) := dk_42 (dk_at dksX4_signed_0 1 rfl rfl)
theorem dX4_signed_2 : decode cX4_signed 2 = .ok (.ldc 81, 2) := dk_18 81 (dk_at dksX4_signed_0 2 rfl rfl)
theorem dX4_signed_4 : decode cX4_signed 4 = .ok (.invokevirtual 101, 3) := dk_182 0 101 (dk_at dksX4_signed_0 4 rfl rfl)
theorem dX4_signed_7 : decode cX4_signed 7 = .ok (.ifCond .eq 7, 3) := dk_153 0 7 (dk_at dksX4_signed_0 7 rfl rfl)
theorem dX4_signed_10 : decode cX4_signed 10 = .ok (.iconst (-1), 1) := dk_2 (dk_at dksX4_signed_0 10 rfl rfl)
theorem dX4_signed_11 : decode cX4_signed 11 = .ok (.goto 4, 3) := dk_167 0 4 (dk_at dksX4_signed_0 11 rfl rfl)
theorem dX4_signed_14 : decode cX4_signed 14 = .ok (.iconst 1, 1) := dk_4 (dk_at dksX4_signed_0 14 rfl rfl)
theorem dX4_signed_15 : decode cX4_signed 15 = .ok (.iload_n 1, 1) := dk_27 (dk_at dksX4_signed_0 15 rfl rfl)
theorem dX4_signed_16 : decode cX4_signed 16 = .ok (.ineg, 1) := dk_116 (dk_at dksX4_signed_0 16 rfl rfl)
theorem dX4_signed_17 : decode cX4_signed 17 = .ok (.iload_n 1, 1) := dk_27 (dk_at dksX4_signed_0 17 rfl rfl)
theorem dX4_signed_18 : decode cX4_signed 18 = .ok (.invokevirtual 108, 3) := dk_182 0 108 (dk_at dksX4_signed_0 18 rfl rfl)
theorem dX4_signed_21 : decode cX4_signed 21 = .ok (.ireturn, 1) := dk_172 (dk_at dksX4_signed_0 21 rfl rfl)
abbrev cX4_map : ByteArray := prog_5_method_15_code
def yX4_map : MethodName := ⟨RX4, "map", "()V"⟩
def dkwX4_map_3 : List UInt8 := [181, 0, 246, 177]
abbrev dktX4_map_3 : List UInt8 := dkwX4_map_3 ++ []
def dkwX4_map_2 : List UInt8 := [182, 0, 116, 60, 42, 180, 0, 20, 42, 4, 16, 12, 182, 0, 116, 181, 0, 243, 42, 180, 0, 20, 27]
abbrev dktX4_map_2 : List UInt8 := dkwX4_map_2 ++ dktX4_map_3
def dkwX4_map_1 : List UInt8 := [182, 0, 190, 181, 0, 237, 42, 180, 0, 20, 42, 4, 16, 99, 182, 0, 116, 181, 0, 240, 42, 4, 16, 12]
abbrev dktX4_map_1 : List UInt8 := dkwX4_map_1 ++ dktX4_map_2
def dkwX4_map_0 : List UInt8 := [42, 180, 0, 20, 42, 17, 3, 231, 182, 0, 190, 181, 0, 234, 42, 180, 0, 20, 42, 17, 3, 231]
abbrev dktX4_map_0 : List UInt8 := dkwX4_map_0 ++ dktX4_map_1
theorem dksX4_map_0 : cX4_map.data.toList.drop 0 = dktX4_map_0 := by decide +kernel
theorem dksX4_map_1 : cX4_map.data.toList.drop 22 = dktX4_map_1 := dk_seg dksX4_map_0 22 rfl rfl
theorem dksX4_map_2 : cX4_map.data.toList.drop 46 = dktX4_map_2 := dk_seg dksX4_map_1 24 rfl rfl
theorem dksX4_map_3 : cX4_map.data.toList.drop 69 = dktX4_map_3 := dk_seg dksX4_map_2 23 rfl rfl
theorem dX4_map_0 : decode cX4_map 0 = .ok (.aload_n 0, 1) := dk_42 (dk_at dksX4_map_0 0 rfl rfl)
theorem dX4_map_1 : decode cX4_map 1 = .ok (.getfield 20, 3) := dk_180 0 20 (dk_at dksX4_map_0 1 rfl rfl)
theorem dX4_map_4 : decode cX4_map 4 = .ok (.aload_n 0, 1) := dk_42 (dk_at dksX4_map_0 4 rfl rfl)
theorem dX4_map_5 : decode cX4_map 5 = .ok (.sipush 999, 3) := dk_17 3 231 (dk_at dksX4_map_0 5 rfl rfl)
theorem dX4_map_8 : decode cX4_map 8 = .ok (.invokevirtual 190, 3) := dk_182 0 190 (dk_at dksX4_map_0 8 rfl rfl)
theorem dX4_map_11 : decode cX4_map 11 = .ok (.putfield 234, 3) := dk_181 0 234 (dk_at dksX4_map_0 11 rfl rfl)
theorem dX4_map_14 : decode cX4_map 14 = .ok (.aload_n 0, 1) := dk_42 (dk_at dksX4_map_0 14 rfl rfl)
theorem dX4_map_15 : decode cX4_map 15 = .ok (.getfield 20, 3) := dk_180 0 20 (dk_at dksX4_map_0 15 rfl rfl)
theorem dX4_map_18 : decode cX4_map 18 = .ok (.aload_n 0, 1) := dk_42 (dk_at dksX4_map_0 18 rfl rfl)
theorem dX4_map_19 : decode cX4_map 19 = .ok (.sipush 999, 3) := dk_17 3 231 (dk_at dksX4_map_0 19 rfl rfl)
theorem dX4_map_22 : decode cX4_map 22 = .ok (.invokevirtual 190, 3) := dk_182 0 190 (dk_at dksX4_map_1 0 rfl rfl)
theorem dX4_map_25 : decode cX4_map 25 = .ok (.putfield 237, 3) := dk_181 0 237 (dk_at dksX4_map_1 3 rfl rfl)
theorem dX4_map_28 : decode cX4_map 28 = .ok (.aload_n 0, 1) := dk_42 (dk_at dksX4_map_1 6 rfl rfl)
theorem dX4_map_29 : decode cX4_map 29 = .ok (.getfield 20, 3) := dk_180 0 20 (dk_at dksX4_map_1 7 rfl rfl)
theorem dX4_map_32 : decode cX4_map 32 = .ok (.aload_n 0, 1) := dk_42 (dk_at dksX4_map_1 10 rfl rfl)
theorem dX4_map_33 : decode cX4_map 33 = .ok (.iconst 1, 1) := dk_4 (dk_at dksX4_map_1 11 rfl rfl)
theorem dX4_map_34 : decode cX4_map 34 = .ok (.bipush 99, 2) := dk_16 99 (dk_at dksX4_map_1 12 rfl rfl)
theorem dX4_map_36 : decode cX4_map 36 = .ok (.invokevirtual 116, 3) := dk_182 0 116 (dk_at dksX4_map_1 14 rfl rfl)
theorem dX4_map_39 : decode cX4_map 39 = .ok (.putfield 240, 3) := dk_181 0 240 (dk_at dksX4_map_1 17 rfl rfl)
theorem dX4_map_42 : decode cX4_map 42 = .ok (.aload_n 0, 1) := dk_42 (dk_at dksX4_map_1 20 rfl rfl)
theorem dX4_map_43 : decode cX4_map 43 = .ok (.iconst 1, 1) := dk_4 (dk_at dksX4_map_1 21 rfl rfl)
theorem dX4_map_44 : decode cX4_map 44 = .ok (.bipush 12, 2) := dk_16 12 (dk_at dksX4_map_1 22 rfl rfl)
theorem dX4_map_46 : decode cX4_map 46 = .ok (.invokevirtual 116, 3) := dk_182 0 116 (dk_at dksX4_map_2 0 rfl rfl)
theorem dX4_map_49 : decode cX4_map 49 = .ok (.istore_n 1, 1) := dk_60 (dk_at dksX4_map_2 3 rfl rfl)
theorem dX4_map_50 : decode cX4_map 50 = .ok (.aload_n 0, 1) := dk_42 (dk_at dksX4_map_2 4 rfl rfl)
theorem dX4_map_51 : decode cX4_map 51 = .ok (.getfield 20, 3) := dk_180 0 20 (dk_at dksX4_map_2 5 rfl rfl)
theorem dX4_map_54 : decode cX4_map 54 = .ok (.aload_n 0, 1) := dk_42 (dk_at dksX4_map_2 8 rfl rfl)
theorem dX4_map_55 : decode cX4_map 55 = .ok (.iconst 1, 1) := dk_4 (dk_at dksX4_map_2 9 rfl rfl)
theorem dX4_map_56 : decode cX4_map 56 = .ok (.bipush 12, 2) := dk_16 12 (dk_at dksX4_map_2 10 rfl rfl)
theorem dX4_map_58 : decode cX4_map 58 = .ok (.invokevirtual 116, 3) := dk_182 0 116 (dk_at dksX4_map_2 12 rfl rfl)
theorem dX4_map_61 : decode cX4_map 61 = .ok (.putfield 243, 3) := dk_181 0 243 (dk_at dksX4_map_2 15 rfl rfl)
theorem dX4_map_64 : decode cX4_map 64 = .ok (.aload_n 0, 1) := dk_42 (dk_at dksX4_map_2 18 rfl rfl)
theorem dX4_map_65 : decode cX4_map 65 = .ok (.getfield 20, 3) := dk_180 0 20 (dk_at dksX4_map_2 19 rfl rfl)
theorem dX4_map_68 : decode cX4_map 68 = .ok (.iload_n 1, 1) := dk_27 (dk_at dksX4_map_2 22 rfl rfl)
theorem dX4_map_69 : decode cX4_map 69 = .ok (.putfield 246, 3) := dk_181 0 246 (dk_at dksX4_map_3 0 rfl rfl)
theorem dX4_map_72 : decode cX4_map 72 = .ok (.return_, 1) := dk_177 (dk_at dksX4_map_3 3 rfl rfl)
abbrev cX4_source : ByteArray := prog_5_method_21_code
def yX4_source : MethodName := ⟨RX4, "source", "()V"⟩
def dkwX4_source_7 : List UInt8 := [185, 0, 198, 2, 0, 87, 177]
abbrev dktX4_source_7 : List UInt8 := dkwX4_source_7 ++ []
def dkwX4_source_6 : List UInt8 := [89, 43, 21, 6, 21, 7, 21, 8, 184, 1, 39, 21, 9, 28, 29, 21, 4, 21, 5, 183, 1, 43]
abbrev dktX4_source_6 : List UInt8 := dkwX4_source_6 ++ dktX4_source_7
def dkwX4_source_5 : List UInt8 := [42, 3, 17, 0, 199, 182, 0, 116, 167, 0, 4, 3, 54, 9, 42, 180, 0, 20, 180, 0, 203, 187, 1, 37]
abbrev dktX4_source_5 : List UInt8 := dkwX4_source_5 ++ dktX4_source_6
def dkwX4_source_4 : List UInt8 := [182, 0, 116, 54, 7, 42, 3, 16, 99, 182, 0, 116, 54, 8, 42, 19, 1, 35, 182, 0, 101, 153, 0, 14]
abbrev dktX4_source_4 : List UInt8 := dkwX4_source_4 ++ dktX4_source_5
def dkwX4_source_3 : List UInt8 := [17, 3, 231, 182, 0, 190, 54, 5, 42, 4, 17, 3, 231, 182, 0, 116, 54, 6, 42, 5, 16, 99]
abbrev dktX4_source_3 : List UInt8 := dkwX4_source_3 ++ dktX4_source_4
def dkwX4_source_2 : List UInt8 := [182, 0, 190, 61, 42, 17, 7, 208, 182, 0, 190, 62, 42, 17, 3, 231, 182, 0, 190, 54, 4, 42]
abbrev dktX4_source_2 : List UInt8 := dkwX4_source_2 ++ dktX4_source_3
def dkwX4_source_1 : List UInt8 := [185, 1, 32, 2, 0, 154, 0, 9, 42, 4, 182, 0, 104, 191, 42, 182, 0, 98, 42, 17, 7, 208]
abbrev dktX4_source_1 : List UInt8 := dkwX4_source_1 ++ dktX4_source_2
def dkwX4_source_0 : List UInt8 := [42, 180, 0, 11, 76, 19, 1, 20, 19, 1, 22, 19, 1, 24, 19, 1, 26, 184, 1, 28, 43]
abbrev dktX4_source_0 : List UInt8 := dkwX4_source_0 ++ dktX4_source_1
theorem dksX4_source_0 : cX4_source.data.toList.drop 0 = dktX4_source_0 := by decide +kernel
theorem dksX4_source_1 : cX4_source.data.toList.drop 21 = dktX4_source_1 := dk_seg dksX4_source_0 21 rfl rfl
theorem dksX4_source_2 : cX4_source.data.toList.drop 43 = dktX4_source_2 := dk_seg dksX4_source_1 22 rfl rfl
theorem dksX4_source_3 : cX4_source.data.toList.drop 65 = dktX4_source_3 := dk_seg dksX4_source_2 22 rfl rfl
theorem dksX4_source_4 : cX4_source.data.toList.drop 87 = dktX4_source_4 := dk_seg dksX4_source_3 22 rfl rfl
theorem dksX4_source_5 : cX4_source.data.toList.drop 111 = dktX4_source_5 := dk_seg dksX4_source_4 24 rfl rfl
theorem dksX4_source_6 : cX4_source.data.toList.drop 135 = dktX4_source_6 := dk_seg dksX4_source_5 24 rfl rfl
theorem dksX4_source_7 : cX4_source.data.toList.drop 157 = dktX4_source_7 := dk_seg dksX4_source_6 22 rfl rfl
theorem dX4_source_0 : decode cX4_source 0 = .ok (.aload_n 0, 1) := dk_42 (dk_at dksX4_source_0 0 rfl rfl)
theorem dX4_source_1 : decode cX4_source 1 = .ok (.getfield 11, 3) := dk_180 0 11 (dk_at dksX4_source_0 1 rfl rfl)
theorem dX4_source_4 : decode cX4_source 4 = .ok (.astore_n 1, 1) := dk_76 (dk_at dksX4_source_0 4 rfl rfl)
theorem dX4_source_5 : decode cX4_source 5 = .ok (.ldc_w 276, 3) := dk_19 1 20 (dk_at dksX4_source_0 5 rfl rfl)
theorem dX4_source_8 : decode cX4_source 8 = .ok (.ldc_w 278, 3) := dk_19 1 22 (dk_at dksX4_source_0 8 rfl rfl)
theorem dX4_source_11 : decode cX4_source 11 = .ok (.ldc_w 280, 3) := dk_19 1 24 (dk_at dksX4_source_0 11 rfl rfl)
theorem dX4_source_14 : decode cX4_source 14 = .ok (.ldc_w 282, 3) := dk_19 1 26 (dk_at dksX4_source_0 14 rfl rfl)
theorem dX4_source_17 : decode cX4_source 17 = .ok (.invokestatic 284, 3) := dk_184 1 28 (dk_at dksX4_source_0 17 rfl rfl)
theorem dX4_source_20 : decode cX4_source 20 = .ok (.aload_n 1, 1) := dk_43 (dk_at dksX4_source_0 20 rfl rfl)
theorem dX4_source_21 : decode cX4_source 21 = .ok (.invokeinterface 288 2, 5) := by decide +kernel
theorem dX4_source_26 : decode cX4_source 26 = .ok (.ifCond .ne 9, 3) := dk_154 0 9 (dk_at dksX4_source_1 5 rfl rfl)
theorem dX4_source_29 : decode cX4_source 29 = .ok (.aload_n 0, 1) := dk_42 (dk_at dksX4_source_1 8 rfl rfl)
theorem dX4_source_30 : decode cX4_source 30 = .ok (.iconst 1, 1) := dk_4 (dk_at dksX4_source_1 9 rfl rfl)
theorem dX4_source_31 : decode cX4_source 31 = .ok (.invokevirtual 104, 3) := dk_182 0 104 (dk_at dksX4_source_1 10 rfl rfl)
theorem dX4_source_34 : decode cX4_source 34 = .ok (.athrow, 1) := dk_191 (dk_at dksX4_source_1 13 rfl rfl)
theorem dX4_source_35 : decode cX4_source 35 = .ok (.aload_n 0, 1) := dk_42 (dk_at dksX4_source_1 14 rfl rfl)
theorem dX4_source_36 : decode cX4_source 36 = .ok (.invokevirtual 98, 3) := dk_182 0 98 (dk_at dksX4_source_1 15 rfl rfl)
theorem dX4_source_39 : decode cX4_source 39 = .ok (.aload_n 0, 1) := dk_42 (dk_at dksX4_source_1 18 rfl rfl)
theorem dX4_source_40 : decode cX4_source 40 = .ok (.sipush 2000, 3) := dk_17 7 208 (dk_at dksX4_source_1 19 rfl rfl)
theorem dX4_source_43 : decode cX4_source 43 = .ok (.invokevirtual 190, 3) := dk_182 0 190 (dk_at dksX4_source_2 0 rfl rfl)
theorem dX4_source_46 : decode cX4_source 46 = .ok (.istore_n 2, 1) := dk_61 (dk_at dksX4_source_2 3 rfl rfl)
theorem dX4_source_47 : decode cX4_source 47 = .ok (.aload_n 0, 1) := dk_42 (dk_at dksX4_source_2 4 rfl rfl)
theorem dX4_source_48 : decode cX4_source 48 = .ok (.sipush 2000, 3) := dk_17 7 208 (dk_at dksX4_source_2 5 rfl rfl)
theorem dX4_source_51 : decode cX4_source 51 = .ok (.invokevirtual 190, 3) := dk_182 0 190 (dk_at dksX4_source_2 8 rfl rfl)
theorem dX4_source_54 : decode cX4_source 54 = .ok (.istore_n 3, 1) := dk_62 (dk_at dksX4_source_2 11 rfl rfl)
theorem dX4_source_55 : decode cX4_source 55 = .ok (.aload_n 0, 1) := dk_42 (dk_at dksX4_source_2 12 rfl rfl)
theorem dX4_source_56 : decode cX4_source 56 = .ok (.sipush 999, 3) := dk_17 3 231 (dk_at dksX4_source_2 13 rfl rfl)
theorem dX4_source_59 : decode cX4_source 59 = .ok (.invokevirtual 190, 3) := dk_182 0 190 (dk_at dksX4_source_2 16 rfl rfl)
theorem dX4_source_62 : decode cX4_source 62 = .ok (.istore 4, 2) := dk_54 4 (dk_at dksX4_source_2 19 rfl rfl)
theorem dX4_source_64 : decode cX4_source 64 = .ok (.aload_n 0, 1) := dk_42 (dk_at dksX4_source_2 21 rfl rfl)
theorem dX4_source_65 : decode cX4_source 65 = .ok (.sipush 999, 3) := dk_17 3 231 (dk_at dksX4_source_3 0 rfl rfl)
theorem dX4_source_68 : decode cX4_source 68 = .ok (.invokevirtual 190, 3) := dk_182 0 190 (dk_at dksX4_source_3 3 rfl rfl)
theorem dX4_source_71 : decode cX4_source 71 = .ok (.istore 5, 2) := dk_54 5 (dk_at dksX4_source_3 6 rfl rfl)
theorem dX4_source_73 : decode cX4_source 73 = .ok (.aload_n 0, 1) := dk_42 (dk_at dksX4_source_3 8 rfl rfl)
theorem dX4_source_74 : decode cX4_source 74 = .ok (.iconst 1, 1) := dk_4 (dk_at dksX4_source_3 9 rfl rfl)
theorem dX4_source_75 : decode cX4_source 75 = .ok (.sipush 999, 3) := dk_17 3 231 (dk_at dksX4_source_3 10 rfl rfl)
theorem dX4_source_78 : decode cX4_source 78 = .ok (.invokevirtual 116, 3) := dk_182 0 116 (dk_at dksX4_source_3 13 rfl rfl)
theorem dX4_source_81 : decode cX4_source 81 = .ok (.istore 6, 2) := dk_54 6 (dk_at dksX4_source_3 16 rfl rfl)
theorem dX4_source_83 : decode cX4_source 83 = .ok (.aload_n 0, 1) := dk_42 (dk_at dksX4_source_3 18 rfl rfl)
theorem dX4_source_84 : decode cX4_source 84 = .ok (.iconst 2, 1) := dk_5 (dk_at dksX4_source_3 19 rfl rfl)
theorem dX4_source_85 : decode cX4_source 85 = .ok (.bipush 99, 2) := dk_16 99 (dk_at dksX4_source_3 20 rfl rfl)
theorem dX4_source_87 : decode cX4_source 87 = .ok (.invokevirtual 116, 3) := dk_182 0 116 (dk_at dksX4_source_4 0 rfl rfl)
theorem dX4_source_90 : decode cX4_source 90 = .ok (.istore 7, 2) := dk_54 7 (dk_at dksX4_source_4 3 rfl rfl)
theorem dX4_source_92 : decode cX4_source 92 = .ok (.aload_n 0, 1) := dk_42 (dk_at dksX4_source_4 5 rfl rfl)
theorem dX4_source_93 : decode cX4_source 93 = .ok (.iconst 0, 1) := dk_3 (dk_at dksX4_source_4 6 rfl rfl)
theorem dX4_source_94 : decode cX4_source 94 = .ok (.bipush 99, 2) := dk_16 99 (dk_at dksX4_source_4 7 rfl rfl)
theorem dX4_source_96 : decode cX4_source 96 = .ok (.invokevirtual 116, 3) := dk_182 0 116 (dk_at dksX4_source_4 9 rfl rfl)
theorem dX4_source_99 : decode cX4_source 99 = .ok (.istore 8, 2) := dk_54 8 (dk_at dksX4_source_4 12 rfl rfl)
theorem dX4_source_101 : decode cX4_source 101 = .ok (.aload_n 0, 1) := dk_42 (dk_at dksX4_source_4 14 rfl rfl)
theorem dX4_source_102 : decode cX4_source 102 = .ok (.ldc_w 291, 3) := dk_19 1 35 (dk_at dksX4_source_4 15 rfl rfl)
theorem dX4_source_105 : decode cX4_source 105 = .ok (.invokevirtual 101, 3) := dk_182 0 101 (dk_at dksX4_source_4 18 rfl rfl)
theorem dX4_source_108 : decode cX4_source 108 = .ok (.ifCond .eq 14, 3) := dk_153 0 14 (dk_at dksX4_source_4 21 rfl rfl)
theorem dX4_source_111 : decode cX4_source 111 = .ok (.aload_n 0, 1) := dk_42 (dk_at dksX4_source_5 0 rfl rfl)
theorem dX4_source_112 : decode cX4_source 112 = .ok (.iconst 0, 1) := dk_3 (dk_at dksX4_source_5 1 rfl rfl)
theorem dX4_source_113 : decode cX4_source 113 = .ok (.sipush 199, 3) := dk_17 0 199 (dk_at dksX4_source_5 2 rfl rfl)
theorem dX4_source_116 : decode cX4_source 116 = .ok (.invokevirtual 116, 3) := dk_182 0 116 (dk_at dksX4_source_5 5 rfl rfl)
theorem dX4_source_119 : decode cX4_source 119 = .ok (.goto 4, 3) := dk_167 0 4 (dk_at dksX4_source_5 8 rfl rfl)
theorem dX4_source_122 : decode cX4_source 122 = .ok (.iconst 0, 1) := dk_3 (dk_at dksX4_source_5 11 rfl rfl)
theorem dX4_source_123 : decode cX4_source 123 = .ok (.istore 9, 2) := dk_54 9 (dk_at dksX4_source_5 12 rfl rfl)
theorem dX4_source_125 : decode cX4_source 125 = .ok (.aload_n 0, 1) := dk_42 (dk_at dksX4_source_5 14 rfl rfl)
theorem dX4_source_126 : decode cX4_source 126 = .ok (.getfield 20, 3) := dk_180 0 20 (dk_at dksX4_source_5 15 rfl rfl)
theorem dX4_source_129 : decode cX4_source 129 = .ok (.getfield 203, 3) := dk_180 0 203 (dk_at dksX4_source_5 18 rfl rfl)
theorem dX4_source_132 : decode cX4_source 132 = .ok (.new 293, 3) := dk_187 1 37 (dk_at dksX4_source_5 21 rfl rfl)
theorem dX4_source_135 : decode cX4_source 135 = .ok (.dup, 1) := dk_89 (dk_at dksX4_source_6 0 rfl rfl)
theorem dX4_source_136 : decode cX4_source 136 = .ok (.aload_n 1, 1) := dk_43 (dk_at dksX4_source_6 1 rfl rfl)
theorem dX4_source_137 : decode cX4_source 137 = .ok (.iload 6, 2) := dk_21 6 (dk_at dksX4_source_6 2 rfl rfl)
theorem dX4_source_139 : decode cX4_source 139 = .ok (.iload 7, 2) := dk_21 7 (dk_at dksX4_source_6 4 rfl rfl)
theorem dX4_source_141 : decode cX4_source 141 = .ok (.iload 8, 2) := dk_21 8 (dk_at dksX4_source_6 6 rfl rfl)
theorem dX4_source_143 : decode cX4_source 143 = .ok (.invokestatic 295, 3) := dk_184 1 39 (dk_at dksX4_source_6 8 rfl rfl)
theorem dX4_source_146 : decode cX4_source 146 = .ok (.iload 9, 2) := dk_21 9 (dk_at dksX4_source_6 11 rfl rfl)
theorem dX4_source_148 : decode cX4_source 148 = .ok (.iload_n 2, 1) := dk_28 (dk_at dksX4_source_6 13 rfl rfl)
theorem dX4_source_149 : decode cX4_source 149 = .ok (.iload_n 3, 1) := dk_29 (dk_at dksX4_source_6 14 rfl rfl)
theorem dX4_source_150 : decode cX4_source 150 = .ok (.iload 4, 2) := dk_21 4 (dk_at dksX4_source_6 15 rfl rfl)
theorem dX4_source_152 : decode cX4_source 152 = .ok (.iload 5, 2) := dk_21 5 (dk_at dksX4_source_6 17 rfl rfl)
theorem dX4_source_154 : decode cX4_source 154 = .ok (.invokespecial 299, 3) := dk_183 1 43 (dk_at dksX4_source_6 19 rfl rfl)
theorem dX4_source_157 : decode cX4_source 157 = .ok (.invokeinterface 198 2, 5) := by decide +kernel
theorem dX4_source_162 : decode cX4_source 162 = .ok (.pop, 1) := dk_87 (dk_at dksX4_source_7 5 rfl rfl)
theorem dX4_source_163 : decode cX4_source 163 = .ok (.return_, 1) := dk_177 (dk_at dksX4_source_7 6 rfl rfl)
abbrev cX4_wave : ByteArray := prog_5_method_22_code
def yX4_wave : MethodName := ⟨RX4, "wave", "(Ljava/lang/String;III)LAcousticCamera$Wave;"⟩
def dkwX4_wave_7 : List UInt8 := [184, 1, 55, 176]
abbrev dktX4_wave_7 : List UInt8 := dkwX4_wave_7 ++ []
def dkwX4_wave_6 : List UInt8 := [27, 28, 29, 184, 1, 46, 176, 27, 28, 29, 184, 1, 51, 176, 27, 28, 29, 184, 1, 53, 176, 27, 29]
abbrev dktX4_wave_6 : List UInt8 := dkwX4_wave_6 ++ dktX4_wave_7
def dkwX4_wave_5 : List UInt8 := [170, 0, 0, 0, 0, 47, 0, 0, 0, 0, 0, 0, 0, 2, 0, 0, 0, 26, 0, 0, 0, 33, 0, 0, 0, 40]
abbrev dktX4_wave_5 : List UInt8 := dkwX4_wave_5 ++ dktX4_wave_6
def dkwX4_wave_4 : List UInt8 := [54, 5, 21, 5]
abbrev dktX4_wave_4 : List UInt8 := dkwX4_wave_4 ++ dktX4_wave_5
def dkwX4_wave_3 : List UInt8 := [182, 0, 88, 153, 0, 23, 4, 54, 5, 167, 0, 17, 25, 4, 19, 1, 24, 182, 0, 88, 153, 0, 6, 5]
abbrev dktX4_wave_3 : List UInt8 := dkwX4_wave_3 ++ dktX4_wave_4
def dkwX4_wave_2 : List UInt8 := [25, 4, 19, 1, 20, 182, 0, 88, 153, 0, 40, 3, 54, 5, 167, 0, 34, 25, 4, 19, 1, 22]
abbrev dktX4_wave_2 : List UInt8 := dkwX4_wave_2 ++ dktX4_wave_3
def dkwX4_wave_1 : List UInt8 := [171, 0, 0, 0, 81, 0, 0, 0, 3, 202, 172, 89, 29, 0, 0, 0, 33, 6, 97, 27, 153, 0, 0, 0, 67, 89, 70, 10, 8, 0, 0, 0, 50]
abbrev dktX4_wave_1 : List UInt8 := dkwX4_wave_1 ++ dktX4_wave_2
def dkwX4_wave_0 : List UInt8 := [42, 58, 4, 2, 54, 5, 25, 4, 182, 0, 160]
abbrev dktX4_wave_0 : List UInt8 := dkwX4_wave_0 ++ dktX4_wave_1
theorem dksX4_wave_0 : cX4_wave.data.toList.drop 0 = dktX4_wave_0 := by decide +kernel
theorem dksX4_wave_1 : cX4_wave.data.toList.drop 11 = dktX4_wave_1 := dk_seg dksX4_wave_0 11 rfl rfl
theorem dksX4_wave_2 : cX4_wave.data.toList.drop 44 = dktX4_wave_2 := dk_seg dksX4_wave_1 33 rfl rfl
theorem dksX4_wave_3 : cX4_wave.data.toList.drop 66 = dktX4_wave_3 := dk_seg dksX4_wave_2 22 rfl rfl
theorem dksX4_wave_4 : cX4_wave.data.toList.drop 90 = dktX4_wave_4 := dk_seg dksX4_wave_3 24 rfl rfl
theorem dksX4_wave_5 : cX4_wave.data.toList.drop 94 = dktX4_wave_5 := dk_seg dksX4_wave_4 4 rfl rfl
theorem dksX4_wave_6 : cX4_wave.data.toList.drop 120 = dktX4_wave_6 := dk_seg dksX4_wave_5 26 rfl rfl
theorem dksX4_wave_7 : cX4_wave.data.toList.drop 143 = dktX4_wave_7 := dk_seg dksX4_wave_6 23 rfl rfl
theorem dX4_wave_0 : decode cX4_wave 0 = .ok (.aload_n 0, 1) := dk_42 (dk_at dksX4_wave_0 0 rfl rfl)
theorem dX4_wave_1 : decode cX4_wave 1 = .ok (.astore 4, 2) := dk_58 4 (dk_at dksX4_wave_0 1 rfl rfl)
theorem dX4_wave_3 : decode cX4_wave 3 = .ok (.iconst (-1), 1) := dk_2 (dk_at dksX4_wave_0 3 rfl rfl)
theorem dX4_wave_4 : decode cX4_wave 4 = .ok (.istore 5, 2) := dk_54 5 (dk_at dksX4_wave_0 4 rfl rfl)
theorem dX4_wave_6 : decode cX4_wave 6 = .ok (.aload 4, 2) := dk_25 4 (dk_at dksX4_wave_0 6 rfl rfl)
theorem dX4_wave_8 : decode cX4_wave 8 = .ok (.invokevirtual 160, 3) := dk_182 0 160 (dk_at dksX4_wave_0 8 rfl rfl)
theorem dX4_wave_11 : decode cX4_wave 11 = .ok (.lookupswitch 81 #[(-894674659, 33), (107027353, 67), (1497762312, 50)], 33) := by decide +kernel
theorem dX4_wave_44 : decode cX4_wave 44 = .ok (.aload 4, 2) := dk_25 4 (dk_at dksX4_wave_2 0 rfl rfl)
theorem dX4_wave_46 : decode cX4_wave 46 = .ok (.ldc_w 276, 3) := dk_19 1 20 (dk_at dksX4_wave_2 2 rfl rfl)
theorem dX4_wave_49 : decode cX4_wave 49 = .ok (.invokevirtual 88, 3) := dk_182 0 88 (dk_at dksX4_wave_2 5 rfl rfl)
theorem dX4_wave_52 : decode cX4_wave 52 = .ok (.ifCond .eq 40, 3) := dk_153 0 40 (dk_at dksX4_wave_2 8 rfl rfl)
theorem dX4_wave_55 : decode cX4_wave 55 = .ok (.iconst 0, 1) := dk_3 (dk_at dksX4_wave_2 11 rfl rfl)
theorem dX4_wave_56 : decode cX4_wave 56 = .ok (.istore 5, 2) := dk_54 5 (dk_at dksX4_wave_2 12 rfl rfl)
theorem dX4_wave_58 : decode cX4_wave 58 = .ok (.goto 34, 3) := dk_167 0 34 (dk_at dksX4_wave_2 14 rfl rfl)
theorem dX4_wave_61 : decode cX4_wave 61 = .ok (.aload 4, 2) := dk_25 4 (dk_at dksX4_wave_2 17 rfl rfl)
theorem dX4_wave_63 : decode cX4_wave 63 = .ok (.ldc_w 278, 3) := dk_19 1 22 (dk_at dksX4_wave_2 19 rfl rfl)
theorem dX4_wave_66 : decode cX4_wave 66 = .ok (.invokevirtual 88, 3) := dk_182 0 88 (dk_at dksX4_wave_3 0 rfl rfl)
theorem dX4_wave_69 : decode cX4_wave 69 = .ok (.ifCond .eq 23, 3) := dk_153 0 23 (dk_at dksX4_wave_3 3 rfl rfl)
theorem dX4_wave_72 : decode cX4_wave 72 = .ok (.iconst 1, 1) := dk_4 (dk_at dksX4_wave_3 6 rfl rfl)
theorem dX4_wave_73 : decode cX4_wave 73 = .ok (.istore 5, 2) := dk_54 5 (dk_at dksX4_wave_3 7 rfl rfl)
theorem dX4_wave_75 : decode cX4_wave 75 = .ok (.goto 17, 3) := dk_167 0 17 (dk_at dksX4_wave_3 9 rfl rfl)
theorem dX4_wave_78 : decode cX4_wave 78 = .ok (.aload 4, 2) := dk_25 4 (dk_at dksX4_wave_3 12 rfl rfl)
theorem dX4_wave_80 : decode cX4_wave 80 = .ok (.ldc_w 280, 3) := dk_19 1 24 (dk_at dksX4_wave_3 14 rfl rfl)
theorem dX4_wave_83 : decode cX4_wave 83 = .ok (.invokevirtual 88, 3) := dk_182 0 88 (dk_at dksX4_wave_3 17 rfl rfl)
theorem dX4_wave_86 : decode cX4_wave 86 = .ok (.ifCond .eq 6, 3) := dk_153 0 6 (dk_at dksX4_wave_3 20 rfl rfl)
theorem dX4_wave_89 : decode cX4_wave 89 = .ok (.iconst 2, 1) := dk_5 (dk_at dksX4_wave_3 23 rfl rfl)
theorem dX4_wave_90 : decode cX4_wave 90 = .ok (.istore 5, 2) := dk_54 5 (dk_at dksX4_wave_4 0 rfl rfl)
theorem dX4_wave_92 : decode cX4_wave 92 = .ok (.iload 5, 2) := dk_21 5 (dk_at dksX4_wave_4 2 rfl rfl)
theorem dX4_wave_94 : decode cX4_wave 94 = .ok (.tableswitch 47 0 2 #[26, 33, 40], 26) := by decide +kernel
theorem dX4_wave_120 : decode cX4_wave 120 = .ok (.iload_n 1, 1) := dk_27 (dk_at dksX4_wave_6 0 rfl rfl)
theorem dX4_wave_121 : decode cX4_wave 121 = .ok (.iload_n 2, 1) := dk_28 (dk_at dksX4_wave_6 1 rfl rfl)
theorem dX4_wave_122 : decode cX4_wave 122 = .ok (.iload_n 3, 1) := dk_29 (dk_at dksX4_wave_6 2 rfl rfl)
theorem dX4_wave_123 : decode cX4_wave 123 = .ok (.invokestatic 302, 3) := dk_184 1 46 (dk_at dksX4_wave_6 3 rfl rfl)
theorem dX4_wave_126 : decode cX4_wave 126 = .ok (.areturn, 1) := dk_176 (dk_at dksX4_wave_6 6 rfl rfl)
theorem dX4_wave_127 : decode cX4_wave 127 = .ok (.iload_n 1, 1) := dk_27 (dk_at dksX4_wave_6 7 rfl rfl)
theorem dX4_wave_128 : decode cX4_wave 128 = .ok (.iload_n 2, 1) := dk_28 (dk_at dksX4_wave_6 8 rfl rfl)
theorem dX4_wave_129 : decode cX4_wave 129 = .ok (.iload_n 3, 1) := dk_29 (dk_at dksX4_wave_6 9 rfl rfl)
theorem dX4_wave_130 : decode cX4_wave 130 = .ok (.invokestatic 307, 3) := dk_184 1 51 (dk_at dksX4_wave_6 10 rfl rfl)
theorem dX4_wave_133 : decode cX4_wave 133 = .ok (.areturn, 1) := dk_176 (dk_at dksX4_wave_6 13 rfl rfl)
theorem dX4_wave_134 : decode cX4_wave 134 = .ok (.iload_n 1, 1) := dk_27 (dk_at dksX4_wave_6 14 rfl rfl)
theorem dX4_wave_135 : decode cX4_wave 135 = .ok (.iload_n 2, 1) := dk_28 (dk_at dksX4_wave_6 15 rfl rfl)
theorem dX4_wave_136 : decode cX4_wave 136 = .ok (.iload_n 3, 1) := dk_29 (dk_at dksX4_wave_6 16 rfl rfl)
theorem dX4_wave_137 : decode cX4_wave 137 = .ok (.invokestatic 309, 3) := dk_184 1 53 (dk_at dksX4_wave_6 17 rfl rfl)
theorem dX4_wave_140 : decode cX4_wave 140 = .ok (.areturn, 1) := dk_176 (dk_at dksX4_wave_6 20 rfl rfl)
theorem dX4_wave_141 : decode cX4_wave 141 = .ok (.iload_n 1, 1) := dk_27 (dk_at dksX4_wave_6 21 rfl rfl)
theorem dX4_wave_142 : decode cX4_wave 142 = .ok (.iload_n 3, 1) := dk_29 (dk_at dksX4_wave_6 22 rfl rfl)
theorem dX4_wave_143 : decode cX4_wave 143 = .ok (.invokestatic 311, 3) := dk_184 1 55 (dk_at dksX4_wave_7 0 rfl rfl)
theorem dX4_wave_146 : decode cX4_wave 146 = .ok (.areturn, 1) := dk_176 (dk_at dksX4_wave_7 3 rfl rfl)
abbrev cX4_filter : ByteArray := prog_5_method_16_code
def yX4_filter : MethodName := ⟨RX4, "filter", "()V"⟩
def dkwX4_filter_4 : List UInt8 := [184, 0, 249, 177]
abbrev dktX4_filter_4 : List UInt8 := dkwX4_filter_4 ++ []
def dkwX4_filter_3 : List UInt8 := [154, 255, 196, 42, 180, 0, 20, 28, 188, 10, 181, 0, 216, 43, 3, 42, 180, 0, 20, 180, 0, 216, 3, 28]
abbrev dktX4_filter_3 : List UInt8 := dkwX4_filter_3 ++ dktX4_filter_4
def dkwX4_filter_2 : List UInt8 := [182, 0, 190, 79, 132, 2, 1, 42, 18, 81, 182, 0, 94, 154, 255, 205, 42, 18, 77, 182, 0, 94]
abbrev dktX4_filter_2 : List UInt8 := dkwX4_filter_2 ++ dktX4_filter_3
def dkwX4_filter_1 : List UInt8 := [180, 0, 67, 16, 9, 164, 0, 7, 5, 167, 0, 4, 7, 182, 0, 104, 191, 43, 28, 42, 16, 9]
abbrev dktX4_filter_1 : List UInt8 := dkwX4_filter_1 ++ dktX4_filter_2
def dkwX4_filter_0 : List UInt8 := [8, 188, 10, 76, 3, 61, 28, 8, 160, 0, 31, 42, 42, 18, 77, 182, 0, 94, 153, 0, 16, 42]
abbrev dktX4_filter_0 : List UInt8 := dkwX4_filter_0 ++ dktX4_filter_1
theorem dksX4_filter_0 : cX4_filter.data.toList.drop 0 = dktX4_filter_0 := by decide +kernel
theorem dksX4_filter_1 : cX4_filter.data.toList.drop 22 = dktX4_filter_1 := dk_seg dksX4_filter_0 22 rfl rfl
theorem dksX4_filter_2 : cX4_filter.data.toList.drop 44 = dktX4_filter_2 := dk_seg dksX4_filter_1 22 rfl rfl
theorem dksX4_filter_3 : cX4_filter.data.toList.drop 66 = dktX4_filter_3 := dk_seg dksX4_filter_2 22 rfl rfl
theorem dksX4_filter_4 : cX4_filter.data.toList.drop 90 = dktX4_filter_4 := dk_seg dksX4_filter_3 24 rfl rfl
theorem dX4_filter_0 : decode cX4_filter 0 = .ok (.iconst 5, 1) := dk_8 (dk_at dksX4_filter_0 0 rfl rfl)
theorem dX4_filter_1 : decode cX4_filter 1 = .ok (.newarray .int, 2) := dk_188_10 (dk_at dksX4_filter_0 1 rfl rfl)
theorem dX4_filter_3 : decode cX4_filter 3 = .ok (.astore_n 1, 1) := dk_76 (dk_at dksX4_filter_0 3 rfl rfl)
theorem dX4_filter_4 : decode cX4_filter 4 = .ok (.iconst 0, 1) := dk_3 (dk_at dksX4_filter_0 4 rfl rfl)
theorem dX4_filter_5 : decode cX4_filter 5 = .ok (.istore_n 2, 1) := dk_61 (dk_at dksX4_filter_0 5 rfl rfl)
theorem dX4_filter_6 : decode cX4_filter 6 = .ok (.iload_n 2, 1) := dk_28 (dk_at dksX4_filter_0 6 rfl rfl)
theorem dX4_filter_7 : decode cX4_filter 7 = .ok (.iconst 5, 1) := dk_8 (dk_at dksX4_filter_0 7 rfl rfl)
theorem dX4_filter_8 : decode cX4_filter 8 = .ok (.if_icmp .ne 31, 3) := dk_160 0 31 (dk_at dksX4_filter_0 8 rfl rfl)
theorem dX4_filter_11 : decode cX4_filter 11 = .ok (.aload_n 0, 1) := dk_42 (dk_at dksX4_filter_0 11 rfl rfl)
theorem dX4_filter_12 : decode cX4_filter 12 = .ok (.aload_n 0, 1) := dk_42 (dk_at dksX4_filter_0 12 rfl rfl)
theorem dX4_filter_13 : decode cX4_filter 13 = .ok (.ldc 77, 2) := dk_18 77 (dk_at dksX4_filter_0 13 rfl rfl)
theorem dX4_filter_15 : decode cX4_filter 15 = .ok (.invokevirtual 94, 3) := dk_182 0 94 (dk_at dksX4_filter_0 15 rfl rfl)
theorem dX4_filter_18 : decode cX4_filter 18 = .ok (.ifCond .eq 16, 3) := dk_153 0 16 (dk_at dksX4_filter_0 18 rfl rfl)
theorem dX4_filter_21 : decode cX4_filter 21 = .ok (.aload_n 0, 1) := dk_42 (dk_at dksX4_filter_0 21 rfl rfl)
theorem dX4_filter_22 : decode cX4_filter 22 = .ok (.getfield 67, 3) := dk_180 0 67 (dk_at dksX4_filter_1 0 rfl rfl)
theorem dX4_filter_25 : decode cX4_filter 25 = .ok (.bipush 9, 2) := dk_16 9 (dk_at dksX4_filter_1 3 rfl rfl)
theorem dX4_filter_27 : decode cX4_filter 27 = .ok (.if_icmp .le 7, 3) := dk_164 0 7 (dk_at dksX4_filter_1 5 rfl rfl)
theorem dX4_filter_30 : decode cX4_filter 30 = .ok (.iconst 2, 1) := dk_5 (dk_at dksX4_filter_1 8 rfl rfl)
theorem dX4_filter_31 : decode cX4_filter 31 = .ok (.goto 4, 3) := dk_167 0 4 (dk_at dksX4_filter_1 9 rfl rfl)
theorem dX4_filter_34 : decode cX4_filter 34 = .ok (.iconst 4, 1) := dk_7 (dk_at dksX4_filter_1 12 rfl rfl)
theorem dX4_filter_35 : decode cX4_filter 35 = .ok (.invokevirtual 104, 3) := dk_182 0 104 (dk_at dksX4_filter_1 13 rfl rfl)
theorem dX4_filter_38 : decode cX4_filter 38 = .ok (.athrow, 1) := dk_191 (dk_at dksX4_filter_1 16 rfl rfl)
theorem dX4_filter_39 : decode cX4_filter 39 = .ok (.aload_n 1, 1) := dk_43 (dk_at dksX4_filter_1 17 rfl rfl)
theorem dX4_filter_40 : decode cX4_filter 40 = .ok (.iload_n 2, 1) := dk_28 (dk_at dksX4_filter_1 18 rfl rfl)
theorem dX4_filter_41 : decode cX4_filter 41 = .ok (.aload_n 0, 1) := dk_42 (dk_at dksX4_filter_1 19 rfl rfl)
theorem dX4_filter_42 : decode cX4_filter 42 = .ok (.bipush 9, 2) := dk_16 9 (dk_at dksX4_filter_1 20 rfl rfl)
theorem dX4_filter_44 : decode cX4_filter 44 = .ok (.invokevirtual 190, 3) := dk_182 0 190 (dk_at dksX4_filter_2 0 rfl rfl)
theorem dX4_filter_47 : decode cX4_filter 47 = .ok (.iastore, 1) := dk_79 (dk_at dksX4_filter_2 3 rfl rfl)
theorem dX4_filter_48 : decode cX4_filter 48 = .ok (.iinc 2 1, 3) := dk_132 2 1 (dk_at dksX4_filter_2 4 rfl rfl)
theorem dX4_filter_51 : decode cX4_filter 51 = .ok (.aload_n 0, 1) := dk_42 (dk_at dksX4_filter_2 7 rfl rfl)
theorem dX4_filter_52 : decode cX4_filter 52 = .ok (.ldc 81, 2) := dk_18 81 (dk_at dksX4_filter_2 8 rfl rfl)
theorem dX4_filter_54 : decode cX4_filter 54 = .ok (.invokevirtual 94, 3) := dk_182 0 94 (dk_at dksX4_filter_2 10 rfl rfl)
theorem dX4_filter_57 : decode cX4_filter 57 = .ok (.ifCond .ne (-51), 3) := dk_154 255 205 (dk_at dksX4_filter_2 13 rfl rfl)
theorem dX4_filter_60 : decode cX4_filter 60 = .ok (.aload_n 0, 1) := dk_42 (dk_at dksX4_filter_2 16 rfl rfl)
theorem dX4_filter_61 : decode cX4_filter 61 = .ok (.ldc 77, 2) := dk_18 77 (dk_at dksX4_filter_2 17 rfl rfl)
theorem dX4_filter_63 : decode cX4_filter 63 = .ok (.invokevirtual 94, 3) := dk_182 0 94 (dk_at dksX4_filter_2 19 rfl rfl)
theorem dX4_filter_66 : decode cX4_filter 66 = .ok (.ifCond .ne (-60), 3) := dk_154 255 196 (dk_at dksX4_filter_3 0 rfl rfl)
theorem dX4_filter_69 : decode cX4_filter 69 = .ok (.aload_n 0, 1) := dk_42 (dk_at dksX4_filter_3 3 rfl rfl)
theorem dX4_filter_70 : decode cX4_filter 70 = .ok (.getfield 20, 3) := dk_180 0 20 (dk_at dksX4_filter_3 4 rfl rfl)
theorem dX4_filter_73 : decode cX4_filter 73 = .ok (.iload_n 2, 1) := dk_28 (dk_at dksX4_filter_3 7 rfl rfl)
theorem dX4_filter_74 : decode cX4_filter 74 = .ok (.newarray .int, 2) := dk_188_10 (dk_at dksX4_filter_3 8 rfl rfl)
theorem dX4_filter_76 : decode cX4_filter 76 = .ok (.putfield 216, 3) := dk_181 0 216 (dk_at dksX4_filter_3 10 rfl rfl)
theorem dX4_filter_79 : decode cX4_filter 79 = .ok (.aload_n 1, 1) := dk_43 (dk_at dksX4_filter_3 13 rfl rfl)
theorem dX4_filter_80 : decode cX4_filter 80 = .ok (.iconst 0, 1) := dk_3 (dk_at dksX4_filter_3 14 rfl rfl)
theorem dX4_filter_81 : decode cX4_filter 81 = .ok (.aload_n 0, 1) := dk_42 (dk_at dksX4_filter_3 15 rfl rfl)
theorem dX4_filter_82 : decode cX4_filter 82 = .ok (.getfield 20, 3) := dk_180 0 20 (dk_at dksX4_filter_3 16 rfl rfl)
theorem dX4_filter_85 : decode cX4_filter 85 = .ok (.getfield 216, 3) := dk_180 0 216 (dk_at dksX4_filter_3 19 rfl rfl)
theorem dX4_filter_88 : decode cX4_filter 88 = .ok (.iconst 0, 1) := dk_3 (dk_at dksX4_filter_3 22 rfl rfl)
theorem dX4_filter_89 : decode cX4_filter 89 = .ok (.iload_n 2, 1) := dk_28 (dk_at dksX4_filter_3 23 rfl rfl)
theorem dX4_filter_90 : decode cX4_filter 90 = .ok (.invokestatic 249, 3) := dk_184 0 249 (dk_at dksX4_filter_4 0 rfl rfl)
theorem dX4_filter_93 : decode cX4_filter 93 = .ok (.return_, 1) := dk_177 (dk_at dksX4_filter_4 3 rfl rfl)
abbrev cX4_clock : ByteArray := prog_5_method_17_code
def yX4_clock : MethodName := ⟨RX4, "clock", "()V"⟩
def dkwX4_clock_4 : List UInt8 := [177]
abbrev dktX4_clock_4 : List UInt8 := dkwX4_clock_4 ++ []
def dkwX4_clock_3 : List UInt8 := [182, 0, 104, 191, 42, 182, 0, 98, 42, 180, 0, 20, 180, 0, 255, 27, 42, 4, 16, 31, 182, 0, 116, 79]
abbrev dktX4_clock_3 : List UInt8 := dkwX4_clock_3 ++ dktX4_clock_4
def dkwX4_clock_2 : List UInt8 := [182, 0, 104, 191, 42, 180, 0, 67, 60, 42, 180, 0, 20, 180, 0, 255, 27, 46, 158, 0, 9, 42, 6]
abbrev dktX4_clock_2 : List UInt8 := dkwX4_clock_2 ++ dktX4_clock_3
def dkwX4_clock_1 : List UInt8 := [180, 0, 20, 180, 0, 146, 185, 0, 183, 1, 0, 4, 100, 133, 184, 0, 46, 154, 0, 9, 42, 5]
abbrev dktX4_clock_1 : List UInt8 := dkwX4_clock_1 ++ dktX4_clock_2
def dkwX4_clock_0 : List UInt8 := [42, 18, 77, 182, 0, 94, 154, 0, 9, 42, 4, 182, 0, 104, 191, 42, 180, 0, 67, 133, 9, 42]
abbrev dktX4_clock_0 : List UInt8 := dkwX4_clock_0 ++ dktX4_clock_1
theorem dksX4_clock_0 : cX4_clock.data.toList.drop 0 = dktX4_clock_0 := by decide +kernel
theorem dksX4_clock_1 : cX4_clock.data.toList.drop 22 = dktX4_clock_1 := dk_seg dksX4_clock_0 22 rfl rfl
theorem dksX4_clock_2 : cX4_clock.data.toList.drop 44 = dktX4_clock_2 := dk_seg dksX4_clock_1 22 rfl rfl
theorem dksX4_clock_3 : cX4_clock.data.toList.drop 67 = dktX4_clock_3 := dk_seg dksX4_clock_2 23 rfl rfl
theorem dksX4_clock_4 : cX4_clock.data.toList.drop 91 = dktX4_clock_4 := dk_seg dksX4_clock_3 24 rfl rfl
theorem dX4_clock_0 : decode cX4_clock 0 = .ok (.aload_n 0, 1) := dk_42 (dk_at dksX4_clock_0 0 rfl rfl)
theorem dX4_clock_1 : decode cX4_clock 1 = .ok (.ldc 77, 2) := dk_18 77 (dk_at dksX4_clock_0 1 rfl rfl)
theorem dX4_clock_3 : decode cX4_clock 3 = .ok (.invokevirtual 94, 3) := dk_182 0 94 (dk_at dksX4_clock_0 3 rfl rfl)
theorem dX4_clock_6 : decode cX4_clock 6 = .ok (.ifCond .ne 9, 3) := dk_154 0 9 (dk_at dksX4_clock_0 6 rfl rfl)
theorem dX4_clock_9 : decode cX4_clock 9 = .ok (.aload_n 0, 1) := dk_42 (dk_at dksX4_clock_0 9 rfl rfl)
theorem dX4_clock_10 : decode cX4_clock 10 = .ok (.iconst 1, 1) := dk_4 (dk_at dksX4_clock_0 10 rfl rfl)
theorem dX4_clock_11 : decode cX4_clock 11 = .ok (.invokevirtual 104, 3) := dk_182 0 104 (dk_at dksX4_clock_0 11 rfl rfl)
theorem dX4_clock_14 : decode cX4_clock 14 = .ok (.athrow, 1) := dk_191 (dk_at dksX4_clock_0 14 rfl rfl)
theorem dX4_clock_15 : decode cX4_clock 15 = .ok (.aload_n 0, 1) := dk_42 (dk_at dksX4_clock_0 15 rfl rfl)
theorem dX4_clock_16 : decode cX4_clock 16 = .ok (.getfield 67, 3) := dk_180 0 67 (dk_at dksX4_clock_0 16 rfl rfl)
theorem dX4_clock_19 : decode cX4_clock 19 = .ok (.i2l, 1) := dk_133 (dk_at dksX4_clock_0 19 rfl rfl)
theorem dX4_clock_20 : decode cX4_clock 20 = .ok (.lconst 0, 1) := dk_9 (dk_at dksX4_clock_0 20 rfl rfl)
theorem dX4_clock_21 : decode cX4_clock 21 = .ok (.aload_n 0, 1) := dk_42 (dk_at dksX4_clock_0 21 rfl rfl)
theorem dX4_clock_22 : decode cX4_clock 22 = .ok (.getfield 20, 3) := dk_180 0 20 (dk_at dksX4_clock_1 0 rfl rfl)
theorem dX4_clock_25 : decode cX4_clock 25 = .ok (.getfield 146, 3) := dk_180 0 146 (dk_at dksX4_clock_1 3 rfl rfl)
theorem dX4_clock_28 : decode cX4_clock 28 = .ok (.invokeinterface 183 1, 5) := by decide +kernel
theorem dX4_clock_33 : decode cX4_clock 33 = .ok (.iconst 1, 1) := dk_4 (dk_at dksX4_clock_1 11 rfl rfl)
theorem dX4_clock_34 : decode cX4_clock 34 = .ok (.isub, 1) := dk_100 (dk_at dksX4_clock_1 12 rfl rfl)
theorem dX4_clock_35 : decode cX4_clock 35 = .ok (.i2l, 1) := dk_133 (dk_at dksX4_clock_1 13 rfl rfl)
theorem dX4_clock_36 : decode cX4_clock 36 = .ok (.invokestatic 46, 3) := dk_184 0 46 (dk_at dksX4_clock_1 14 rfl rfl)
theorem dX4_clock_39 : decode cX4_clock 39 = .ok (.ifCond .ne 9, 3) := dk_154 0 9 (dk_at dksX4_clock_1 17 rfl rfl)
theorem dX4_clock_42 : decode cX4_clock 42 = .ok (.aload_n 0, 1) := dk_42 (dk_at dksX4_clock_1 20 rfl rfl)
theorem dX4_clock_43 : decode cX4_clock 43 = .ok (.iconst 2, 1) := dk_5 (dk_at dksX4_clock_1 21 rfl rfl)
theorem dX4_clock_44 : decode cX4_clock 44 = .ok (.invokevirtual 104, 3) := dk_182 0 104 (dk_at dksX4_clock_2 0 rfl rfl)
theorem dX4_clock_47 : decode cX4_clock 47 = .ok (.athrow, 1) := dk_191 (dk_at dksX4_clock_2 3 rfl rfl)
theorem dX4_clock_48 : decode cX4_clock 48 = .ok (.aload_n 0, 1) := dk_42 (dk_at dksX4_clock_2 4 rfl rfl)
theorem dX4_clock_49 : decode cX4_clock 49 = .ok (.getfield 67, 3) := dk_180 0 67 (dk_at dksX4_clock_2 5 rfl rfl)
theorem dX4_clock_52 : decode cX4_clock 52 = .ok (.istore_n 1, 1) := dk_60 (dk_at dksX4_clock_2 8 rfl rfl)
theorem dX4_clock_53 : decode cX4_clock 53 = .ok (.aload_n 0, 1) := dk_42 (dk_at dksX4_clock_2 9 rfl rfl)
theorem dX4_clock_54 : decode cX4_clock 54 = .ok (.getfield 20, 3) := dk_180 0 20 (dk_at dksX4_clock_2 10 rfl rfl)
theorem dX4_clock_57 : decode cX4_clock 57 = .ok (.getfield 255, 3) := dk_180 0 255 (dk_at dksX4_clock_2 13 rfl rfl)
theorem dX4_clock_60 : decode cX4_clock 60 = .ok (.iload_n 1, 1) := dk_27 (dk_at dksX4_clock_2 16 rfl rfl)
theorem dX4_clock_61 : decode cX4_clock 61 = .ok (.iaload, 1) := dk_46 (dk_at dksX4_clock_2 17 rfl rfl)
theorem dX4_clock_62 : decode cX4_clock 62 = .ok (.ifCond .le 9, 3) := dk_158 0 9 (dk_at dksX4_clock_2 18 rfl rfl)
theorem dX4_clock_65 : decode cX4_clock 65 = .ok (.aload_n 0, 1) := dk_42 (dk_at dksX4_clock_2 21 rfl rfl)
theorem dX4_clock_66 : decode cX4_clock 66 = .ok (.iconst 3, 1) := dk_6 (dk_at dksX4_clock_2 22 rfl rfl)
theorem dX4_clock_67 : decode cX4_clock 67 = .ok (.invokevirtual 104, 3) := dk_182 0 104 (dk_at dksX4_clock_3 0 rfl rfl)
theorem dX4_clock_70 : decode cX4_clock 70 = .ok (.athrow, 1) := dk_191 (dk_at dksX4_clock_3 3 rfl rfl)
theorem dX4_clock_71 : decode cX4_clock 71 = .ok (.aload_n 0, 1) := dk_42 (dk_at dksX4_clock_3 4 rfl rfl)
theorem dX4_clock_72 : decode cX4_clock 72 = .ok (.invokevirtual 98, 3) := dk_182 0 98 (dk_at dksX4_clock_3 5 rfl rfl)
theorem dX4_clock_75 : decode cX4_clock 75 = .ok (.aload_n 0, 1) := dk_42 (dk_at dksX4_clock_3 8 rfl rfl)
theorem dX4_clock_76 : decode cX4_clock 76 = .ok (.getfield 20, 3) := dk_180 0 20 (dk_at dksX4_clock_3 9 rfl rfl)
theorem dX4_clock_79 : decode cX4_clock 79 = .ok (.getfield 255, 3) := dk_180 0 255 (dk_at dksX4_clock_3 12 rfl rfl)
theorem dX4_clock_82 : decode cX4_clock 82 = .ok (.iload_n 1, 1) := dk_27 (dk_at dksX4_clock_3 15 rfl rfl)
theorem dX4_clock_83 : decode cX4_clock 83 = .ok (.aload_n 0, 1) := dk_42 (dk_at dksX4_clock_3 16 rfl rfl)
theorem dX4_clock_84 : decode cX4_clock 84 = .ok (.iconst 1, 1) := dk_4 (dk_at dksX4_clock_3 17 rfl rfl)
theorem dX4_clock_85 : decode cX4_clock 85 = .ok (.bipush 31, 2) := dk_16 31 (dk_at dksX4_clock_3 18 rfl rfl)
theorem dX4_clock_87 : decode cX4_clock 87 = .ok (.invokevirtual 116, 3) := dk_182 0 116 (dk_at dksX4_clock_3 20 rfl rfl)
theorem dX4_clock_90 : decode cX4_clock 90 = .ok (.iastore, 1) := dk_79 (dk_at dksX4_clock_3 23 rfl rfl)
theorem dX4_clock_91 : decode cX4_clock 91 = .ok (.return_, 1) := dk_177 (dk_at dksX4_clock_4 0 rfl rfl)
abbrev cX4_shade : ByteArray := prog_5_method_18_code
def yX4_shade : MethodName := ⟨RX4, "shade", "()V"⟩
def dkwX4_shade_3 : List UInt8 := [180, 0, 223, 3, 28, 184, 0, 249, 177]
abbrev dktX4_shade_3 : List UInt8 := dkwX4_shade_3 ++ []
def dkwX4_shade_2 : List UInt8 := [182, 0, 94, 154, 255, 212, 42, 180, 0, 20, 28, 188, 10, 181, 0, 223, 43, 3, 42, 180, 0, 20]
abbrev dktX4_shade_2 : List UInt8 := dkwX4_shade_2 ++ dktX4_shade_3
def dkwX4_shade_1 : List UInt8 := [167, 0, 4, 7, 182, 0, 104, 191, 43, 28, 42, 3, 16, 9, 182, 0, 116, 79, 132, 2, 1, 42, 18, 77]
abbrev dktX4_shade_1 : List UInt8 := dkwX4_shade_1 ++ dktX4_shade_2
def dkwX4_shade_0 : List UInt8 := [16, 12, 188, 10, 76, 3, 61, 28, 16, 12, 160, 0, 22, 42, 42, 180, 0, 67, 16, 9, 164, 0, 7, 5]
abbrev dktX4_shade_0 : List UInt8 := dkwX4_shade_0 ++ dktX4_shade_1
theorem dksX4_shade_0 : cX4_shade.data.toList.drop 0 = dktX4_shade_0 := by decide +kernel
theorem dksX4_shade_1 : cX4_shade.data.toList.drop 24 = dktX4_shade_1 := dk_seg dksX4_shade_0 24 rfl rfl
theorem dksX4_shade_2 : cX4_shade.data.toList.drop 48 = dktX4_shade_2 := dk_seg dksX4_shade_1 24 rfl rfl
theorem dksX4_shade_3 : cX4_shade.data.toList.drop 70 = dktX4_shade_3 := dk_seg dksX4_shade_2 22 rfl rfl
theorem dX4_shade_0 : decode cX4_shade 0 = .ok (.bipush 12, 2) := dk_16 12 (dk_at dksX4_shade_0 0 rfl rfl)
theorem dX4_shade_2 : decode cX4_shade 2 = .ok (.newarray .int, 2) := dk_188_10 (dk_at dksX4_shade_0 2 rfl rfl)
theorem dX4_shade_4 : decode cX4_shade 4 = .ok (.astore_n 1, 1) := dk_76 (dk_at dksX4_shade_0 4 rfl rfl)
theorem dX4_shade_5 : decode cX4_shade 5 = .ok (.iconst 0, 1) := dk_3 (dk_at dksX4_shade_0 5 rfl rfl)
theorem dX4_shade_6 : decode cX4_shade 6 = .ok (.istore_n 2, 1) := dk_61 (dk_at dksX4_shade_0 6 rfl rfl)
theorem dX4_shade_7 : decode cX4_shade 7 = .ok (.iload_n 2, 1) := dk_28 (dk_at dksX4_shade_0 7 rfl rfl)
theorem dX4_shade_8 : decode cX4_shade 8 = .ok (.bipush 12, 2) := dk_16 12 (dk_at dksX4_shade_0 8 rfl rfl)
theorem dX4_shade_10 : decode cX4_shade 10 = .ok (.if_icmp .ne 22, 3) := dk_160 0 22 (dk_at dksX4_shade_0 10 rfl rfl)
theorem dX4_shade_13 : decode cX4_shade 13 = .ok (.aload_n 0, 1) := dk_42 (dk_at dksX4_shade_0 13 rfl rfl)
theorem dX4_shade_14 : decode cX4_shade 14 = .ok (.aload_n 0, 1) := dk_42 (dk_at dksX4_shade_0 14 rfl rfl)
theorem dX4_shade_15 : decode cX4_shade 15 = .ok (.getfield 67, 3) := dk_180 0 67 (dk_at dksX4_shade_0 15 rfl rfl)
theorem dX4_shade_18 : decode cX4_shade 18 = .ok (.bipush 9, 2) := dk_16 9 (dk_at dksX4_shade_0 18 rfl rfl)
theorem dX4_shade_20 : decode cX4_shade 20 = .ok (.if_icmp .le 7, 3) := dk_164 0 7 (dk_at dksX4_shade_0 20 rfl rfl)
theorem dX4_shade_23 : decode cX4_shade 23 = .ok (.iconst 2, 1) := dk_5 (dk_at dksX4_shade_0 23 rfl rfl)
theorem dX4_shade_24 : decode cX4_shade 24 = .ok (.goto 4, 3) := dk_167 0 4 (dk_at dksX4_shade_1 0 rfl rfl)
theorem dX4_shade_27 : decode cX4_shade 27 = .ok (.iconst 4, 1) := dk_7 (dk_at dksX4_shade_1 3 rfl rfl)
theorem dX4_shade_28 : decode cX4_shade 28 = .ok (.invokevirtual 104, 3) := dk_182 0 104 (dk_at dksX4_shade_1 4 rfl rfl)
theorem dX4_shade_31 : decode cX4_shade 31 = .ok (.athrow, 1) := dk_191 (dk_at dksX4_shade_1 7 rfl rfl)
theorem dX4_shade_32 : decode cX4_shade 32 = .ok (.aload_n 1, 1) := dk_43 (dk_at dksX4_shade_1 8 rfl rfl)
theorem dX4_shade_33 : decode cX4_shade 33 = .ok (.iload_n 2, 1) := dk_28 (dk_at dksX4_shade_1 9 rfl rfl)
theorem dX4_shade_34 : decode cX4_shade 34 = .ok (.aload_n 0, 1) := dk_42 (dk_at dksX4_shade_1 10 rfl rfl)
theorem dX4_shade_35 : decode cX4_shade 35 = .ok (.iconst 0, 1) := dk_3 (dk_at dksX4_shade_1 11 rfl rfl)
theorem dX4_shade_36 : decode cX4_shade 36 = .ok (.bipush 9, 2) := dk_16 9 (dk_at dksX4_shade_1 12 rfl rfl)
theorem dX4_shade_38 : decode cX4_shade 38 = .ok (.invokevirtual 116, 3) := dk_182 0 116 (dk_at dksX4_shade_1 14 rfl rfl)
theorem dX4_shade_41 : decode cX4_shade 41 = .ok (.iastore, 1) := dk_79 (dk_at dksX4_shade_1 17 rfl rfl)
theorem dX4_shade_42 : decode cX4_shade 42 = .ok (.iinc 2 1, 3) := dk_132 2 1 (dk_at dksX4_shade_1 18 rfl rfl)
theorem dX4_shade_45 : decode cX4_shade 45 = .ok (.aload_n 0, 1) := dk_42 (dk_at dksX4_shade_1 21 rfl rfl)
theorem dX4_shade_46 : decode cX4_shade 46 = .ok (.ldc 77, 2) := dk_18 77 (dk_at dksX4_shade_1 22 rfl rfl)
theorem dX4_shade_48 : decode cX4_shade 48 = .ok (.invokevirtual 94, 3) := dk_182 0 94 (dk_at dksX4_shade_2 0 rfl rfl)
theorem dX4_shade_51 : decode cX4_shade 51 = .ok (.ifCond .ne (-44), 3) := dk_154 255 212 (dk_at dksX4_shade_2 3 rfl rfl)
theorem dX4_shade_54 : decode cX4_shade 54 = .ok (.aload_n 0, 1) := dk_42 (dk_at dksX4_shade_2 6 rfl rfl)
theorem dX4_shade_55 : decode cX4_shade 55 = .ok (.getfield 20, 3) := dk_180 0 20 (dk_at dksX4_shade_2 7 rfl rfl)
theorem dX4_shade_58 : decode cX4_shade 58 = .ok (.iload_n 2, 1) := dk_28 (dk_at dksX4_shade_2 10 rfl rfl)
theorem dX4_shade_59 : decode cX4_shade 59 = .ok (.newarray .int, 2) := dk_188_10 (dk_at dksX4_shade_2 11 rfl rfl)
theorem dX4_shade_61 : decode cX4_shade 61 = .ok (.putfield 223, 3) := dk_181 0 223 (dk_at dksX4_shade_2 13 rfl rfl)
theorem dX4_shade_64 : decode cX4_shade 64 = .ok (.aload_n 1, 1) := dk_43 (dk_at dksX4_shade_2 16 rfl rfl)
theorem dX4_shade_65 : decode cX4_shade 65 = .ok (.iconst 0, 1) := dk_3 (dk_at dksX4_shade_2 17 rfl rfl)
theorem dX4_shade_66 : decode cX4_shade 66 = .ok (.aload_n 0, 1) := dk_42 (dk_at dksX4_shade_2 18 rfl rfl)
theorem dX4_shade_67 : decode cX4_shade 67 = .ok (.getfield 20, 3) := dk_180 0 20 (dk_at dksX4_shade_2 19 rfl rfl)
theorem dX4_shade_70 : decode cX4_shade 70 = .ok (.getfield 223, 3) := dk_180 0 223 (dk_at dksX4_shade_3 0 rfl rfl)
theorem dX4_shade_73 : decode cX4_shade 73 = .ok (.iconst 0, 1) := dk_3 (dk_at dksX4_shade_3 3 rfl rfl)
theorem dX4_shade_74 : decode cX4_shade 74 = .ok (.iload_n 2, 1) := dk_28 (dk_at dksX4_shade_3 4 rfl rfl)
theorem dX4_shade_75 : decode cX4_shade 75 = .ok (.invokestatic 249, 3) := dk_184 0 249 (dk_at dksX4_shade_3 5 rfl rfl)
theorem dX4_shade_78 : decode cX4_shade 78 = .ok (.return_, 1) := dk_177 (dk_at dksX4_shade_3 8 rfl rfl)
abbrev cX4_off : ByteArray := prog_5_method_19_code
def yX4_off : MethodName := ⟨RX4, "off", "()V"⟩
def dkwX4_off_3 : List UInt8 := [182, 0, 104, 191, 42, 180, 0, 20, 180, 1, 2, 42, 180, 0, 67, 182, 1, 11, 42, 182, 0, 98, 177]
abbrev dktX4_off_3 : List UInt8 := dkwX4_off_3 ++ []
def dkwX4_off_2 : List UInt8 := [182, 0, 104, 191, 42, 180, 0, 20, 180, 1, 2, 42, 180, 0, 67, 182, 1, 5, 153, 0, 9, 42, 6]
abbrev dktX4_off_2 : List UInt8 := dkwX4_off_2 ++ dktX4_off_3
def dkwX4_off_1 : List UInt8 := [180, 0, 20, 180, 0, 203, 185, 0, 183, 1, 0, 4, 100, 133, 184, 0, 46, 154, 0, 9, 42, 5]
abbrev dktX4_off_1 : List UInt8 := dkwX4_off_1 ++ dktX4_off_2
def dkwX4_off_0 : List UInt8 := [42, 18, 77, 182, 0, 94, 154, 0, 9, 42, 4, 182, 0, 104, 191, 42, 180, 0, 67, 133, 9, 42]
abbrev dktX4_off_0 : List UInt8 := dkwX4_off_0 ++ dktX4_off_1
theorem dksX4_off_0 : cX4_off.data.toList.drop 0 = dktX4_off_0 := by decide +kernel
theorem dksX4_off_1 : cX4_off.data.toList.drop 22 = dktX4_off_1 := dk_seg dksX4_off_0 22 rfl rfl
theorem dksX4_off_2 : cX4_off.data.toList.drop 44 = dktX4_off_2 := dk_seg dksX4_off_1 22 rfl rfl
theorem dksX4_off_3 : cX4_off.data.toList.drop 67 = dktX4_off_3 := dk_seg dksX4_off_2 23 rfl rfl
theorem dX4_off_0 : decode cX4_off 0 = .ok (.aload_n 0, 1) := dk_42 (dk_at dksX4_off_0 0 rfl rfl)
theorem dX4_off_1 : decode cX4_off 1 = .ok (.ldc 77, 2) := dk_18 77 (dk_at dksX4_off_0 1 rfl rfl)
theorem dX4_off_3 : decode cX4_off 3 = .ok (.invokevirtual 94, 3) := dk_182 0 94 (dk_at dksX4_off_0 3 rfl rfl)
theorem dX4_off_6 : decode cX4_off 6 = .ok (.ifCond .ne 9, 3) := dk_154 0 9 (dk_at dksX4_off_0 6 rfl rfl)
theorem dX4_off_9 : decode cX4_off 9 = .ok (.aload_n 0, 1) := dk_42 (dk_at dksX4_off_0 9 rfl rfl)
theorem dX4_off_10 : decode cX4_off 10 = .ok (.iconst 1, 1) := dk_4 (dk_at dksX4_off_0 10 rfl rfl)
theorem dX4_off_11 : decode cX4_off 11 = .ok (.invokevirtual 104, 3) := dk_182 0 104 (dk_at dksX4_off_0 11 rfl rfl)
theorem dX4_off_14 : decode cX4_off 14 = .ok (.athrow, 1) := dk_191 (dk_at dksX4_off_0 14 rfl rfl)
theorem dX4_off_15 : decode cX4_off 15 = .ok (.aload_n 0, 1) := dk_42 (dk_at dksX4_off_0 15 rfl rfl)
theorem dX4_off_16 : decode cX4_off 16 = .ok (.getfield 67, 3) := dk_180 0 67 (dk_at dksX4_off_0 16 rfl rfl)
theorem dX4_off_19 : decode cX4_off 19 = .ok (.i2l, 1) := dk_133 (dk_at dksX4_off_0 19 rfl rfl)
theorem dX4_off_20 : decode cX4_off 20 = .ok (.lconst 0, 1) := dk_9 (dk_at dksX4_off_0 20 rfl rfl)
theorem dX4_off_21 : decode cX4_off 21 = .ok (.aload_n 0, 1) := dk_42 (dk_at dksX4_off_0 21 rfl rfl)
theorem dX4_off_22 : decode cX4_off 22 = .ok (.getfield 20, 3) := dk_180 0 20 (dk_at dksX4_off_1 0 rfl rfl)
theorem dX4_off_25 : decode cX4_off 25 = .ok (.getfield 203, 3) := dk_180 0 203 (dk_at dksX4_off_1 3 rfl rfl)
theorem dX4_off_28 : decode cX4_off 28 = .ok (.invokeinterface 183 1, 5) := by decide +kernel
theorem dX4_off_33 : decode cX4_off 33 = .ok (.iconst 1, 1) := dk_4 (dk_at dksX4_off_1 11 rfl rfl)
theorem dX4_off_34 : decode cX4_off 34 = .ok (.isub, 1) := dk_100 (dk_at dksX4_off_1 12 rfl rfl)
theorem dX4_off_35 : decode cX4_off 35 = .ok (.i2l, 1) := dk_133 (dk_at dksX4_off_1 13 rfl rfl)
theorem dX4_off_36 : decode cX4_off 36 = .ok (.invokestatic 46, 3) := dk_184 0 46 (dk_at dksX4_off_1 14 rfl rfl)
theorem dX4_off_39 : decode cX4_off 39 = .ok (.ifCond .ne 9, 3) := dk_154 0 9 (dk_at dksX4_off_1 17 rfl rfl)
theorem dX4_off_42 : decode cX4_off 42 = .ok (.aload_n 0, 1) := dk_42 (dk_at dksX4_off_1 20 rfl rfl)
theorem dX4_off_43 : decode cX4_off 43 = .ok (.iconst 2, 1) := dk_5 (dk_at dksX4_off_1 21 rfl rfl)
theorem dX4_off_44 : decode cX4_off 44 = .ok (.invokevirtual 104, 3) := dk_182 0 104 (dk_at dksX4_off_2 0 rfl rfl)
theorem dX4_off_47 : decode cX4_off 47 = .ok (.athrow, 1) := dk_191 (dk_at dksX4_off_2 3 rfl rfl)
theorem dX4_off_48 : decode cX4_off 48 = .ok (.aload_n 0, 1) := dk_42 (dk_at dksX4_off_2 4 rfl rfl)
theorem dX4_off_49 : decode cX4_off 49 = .ok (.getfield 20, 3) := dk_180 0 20 (dk_at dksX4_off_2 5 rfl rfl)
theorem dX4_off_52 : decode cX4_off 52 = .ok (.getfield 258, 3) := dk_180 1 2 (dk_at dksX4_off_2 8 rfl rfl)
theorem dX4_off_55 : decode cX4_off 55 = .ok (.aload_n 0, 1) := dk_42 (dk_at dksX4_off_2 11 rfl rfl)
theorem dX4_off_56 : decode cX4_off 56 = .ok (.getfield 67, 3) := dk_180 0 67 (dk_at dksX4_off_2 12 rfl rfl)
theorem dX4_off_59 : decode cX4_off 59 = .ok (.invokevirtual 261, 3) := dk_182 1 5 (dk_at dksX4_off_2 15 rfl rfl)
theorem dX4_off_62 : decode cX4_off 62 = .ok (.ifCond .eq 9, 3) := dk_153 0 9 (dk_at dksX4_off_2 18 rfl rfl)
theorem dX4_off_65 : decode cX4_off 65 = .ok (.aload_n 0, 1) := dk_42 (dk_at dksX4_off_2 21 rfl rfl)
theorem dX4_off_66 : decode cX4_off 66 = .ok (.iconst 3, 1) := dk_6 (dk_at dksX4_off_2 22 rfl rfl)
theorem dX4_off_67 : decode cX4_off 67 = .ok (.invokevirtual 104, 3) := dk_182 0 104 (dk_at dksX4_off_3 0 rfl rfl)
theorem dX4_off_70 : decode cX4_off 70 = .ok (.athrow, 1) := dk_191 (dk_at dksX4_off_3 3 rfl rfl)
theorem dX4_off_71 : decode cX4_off 71 = .ok (.aload_n 0, 1) := dk_42 (dk_at dksX4_off_3 4 rfl rfl)
theorem dX4_off_72 : decode cX4_off 72 = .ok (.getfield 20, 3) := dk_180 0 20 (dk_at dksX4_off_3 5 rfl rfl)
theorem dX4_off_75 : decode cX4_off 75 = .ok (.getfield 258, 3) := dk_180 1 2 (dk_at dksX4_off_3 8 rfl rfl)
theorem dX4_off_78 : decode cX4_off 78 = .ok (.aload_n 0, 1) := dk_42 (dk_at dksX4_off_3 11 rfl rfl)
theorem dX4_off_79 : decode cX4_off 79 = .ok (.getfield 67, 3) := dk_180 0 67 (dk_at dksX4_off_3 12 rfl rfl)
theorem dX4_off_82 : decode cX4_off 82 = .ok (.invokevirtual 267, 3) := dk_182 1 11 (dk_at dksX4_off_3 15 rfl rfl)
theorem dX4_off_85 : decode cX4_off 85 = .ok (.aload_n 0, 1) := dk_42 (dk_at dksX4_off_3 18 rfl rfl)
theorem dX4_off_86 : decode cX4_off 86 = .ok (.invokevirtual 98, 3) := dk_182 0 98 (dk_at dksX4_off_3 19 rfl rfl)
theorem dX4_off_89 : decode cX4_off 89 = .ok (.return_, 1) := dk_177 (dk_at dksX4_off_3 22 rfl rfl)
abbrev cX4_zone : ByteArray := prog_5_method_20_code
def yX4_zone : MethodName := ⟨RX4, "zone", "()V"⟩
def dkwX4_zone_3 : List UInt8 := [182, 0, 116, 183, 1, 17, 185, 0, 198, 2, 0, 87, 177]
abbrev dktX4_zone_3 : List UInt8 := dkwX4_zone_3 ++ []
def dkwX4_zone_2 : List UInt8 := [180, 0, 20, 180, 0, 229, 187, 1, 15, 89, 27, 28, 29, 42, 28, 42, 180, 0, 20, 180, 0, 243, 4, 100]
abbrev dktX4_zone_2 : List UInt8 := dkwX4_zone_2 ++ dktX4_zone_3
def dkwX4_zone_1 : List UInt8 := [4, 100, 182, 0, 116, 61, 42, 27, 42, 180, 0, 20, 180, 0, 246, 4, 100, 182, 0, 116, 62, 42]
abbrev dktX4_zone_1 : List UInt8 := dkwX4_zone_1 ++ dktX4_zone_2
def dkwX4_zone_0 : List UInt8 := [42, 3, 42, 180, 0, 20, 180, 0, 246, 4, 100, 182, 0, 116, 60, 42, 3, 42, 180, 0, 20, 180, 0, 243]
abbrev dktX4_zone_0 : List UInt8 := dkwX4_zone_0 ++ dktX4_zone_1
theorem dksX4_zone_0 : cX4_zone.data.toList.drop 0 = dktX4_zone_0 := by decide +kernel
theorem dksX4_zone_1 : cX4_zone.data.toList.drop 24 = dktX4_zone_1 := dk_seg dksX4_zone_0 24 rfl rfl
theorem dksX4_zone_2 : cX4_zone.data.toList.drop 46 = dktX4_zone_2 := dk_seg dksX4_zone_1 22 rfl rfl
theorem dksX4_zone_3 : cX4_zone.data.toList.drop 70 = dktX4_zone_3 := dk_seg dksX4_zone_2 24 rfl rfl
theorem dX4_zone_0 : decode cX4_zone 0 = .ok (.aload_n 0, 1) := dk_42 (dk_at dksX4_zone_0 0 rfl rfl)
theorem dX4_zone_1 : decode cX4_zone 1 = .ok (.iconst 0, 1) := dk_3 (dk_at dksX4_zone_0 1 rfl rfl)
theorem dX4_zone_2 : decode cX4_zone 2 = .ok (.aload_n 0, 1) := dk_42 (dk_at dksX4_zone_0 2 rfl rfl)
theorem dX4_zone_3 : decode cX4_zone 3 = .ok (.getfield 20, 3) := dk_180 0 20 (dk_at dksX4_zone_0 3 rfl rfl)
theorem dX4_zone_6 : decode cX4_zone 6 = .ok (.getfield 246, 3) := dk_180 0 246 (dk_at dksX4_zone_0 6 rfl rfl)
theorem dX4_zone_9 : decode cX4_zone 9 = .ok (.iconst 1, 1) := dk_4 (dk_at dksX4_zone_0 9 rfl rfl)
theorem dX4_zone_10 : decode cX4_zone 10 = .ok (.isub, 1) := dk_100 (dk_at dksX4_zone_0 10 rfl rfl)
theorem dX4_zone_11 : decode cX4_zone 11 = .ok (.invokevirtual 116, 3) := dk_182 0 116 (dk_at dksX4_zone_0 11 rfl rfl)
theorem dX4_zone_14 : decode cX4_zone 14 = .ok (.istore_n 1, 1) := dk_60 (dk_at dksX4_zone_0 14 rfl rfl)
theorem dX4_zone_15 : decode cX4_zone 15 = .ok (.aload_n 0, 1) := dk_42 (dk_at dksX4_zone_0 15 rfl rfl)
theorem dX4_zone_16 : decode cX4_zone 16 = .ok (.iconst 0, 1) := dk_3 (dk_at dksX4_zone_0 16 rfl rfl)
theorem dX4_zone_17 : decode cX4_zone 17 = .ok (.aload_n 0, 1) := dk_42 (dk_at dksX4_zone_0 17 rfl rfl)
theorem dX4_zone_18 : decode cX4_zone 18 = .ok (.getfield 20, 3) := dk_180 0 20 (dk_at dksX4_zone_0 18 rfl rfl)
theorem dX4_zone_21 : decode cX4_zone 21 = .ok (.getfield 243, 3) := dk_180 0 243 (dk_at dksX4_zone_0 21 rfl rfl)
theorem dX4_zone_24 : decode cX4_zone 24 = .ok (.iconst 1, 1) := dk_4 (dk_at dksX4_zone_1 0 rfl rfl)
theorem dX4_zone_25 : decode cX4_zone 25 = .ok (.isub, 1) := dk_100 (dk_at dksX4_zone_1 1 rfl rfl)
theorem dX4_zone_26 : decode cX4_zone 26 = .ok (.invokevirtual 116, 3) := dk_182 0 116 (dk_at dksX4_zone_1 2 rfl rfl)
theorem dX4_zone_29 : decode cX4_zone 29 = .ok (.istore_n 2, 1) := dk_61 (dk_at dksX4_zone_1 5 rfl rfl)
theorem dX4_zone_30 : decode cX4_zone 30 = .ok (.aload_n 0, 1) := dk_42 (dk_at dksX4_zone_1 6 rfl rfl)
theorem dX4_zone_31 : decode cX4_zone 31 = .ok (.iload_n 1, 1) := dk_27 (dk_at dksX4_zone_1 7 rfl rfl)
theorem dX4_zone_32 : decode cX4_zone 32 = .ok (.aload_n 0, 1) := dk_42 (dk_at dksX4_zone_1 8 rfl rfl)
theorem dX4_zone_33 : decode cX4_zone 33 = .ok (.getfield 20, 3) := dk_180 0 20 (dk_at dksX4_zone_1 9 rfl rfl)
theorem dX4_zone_36 : decode cX4_zone 36 = .ok (.getfield 246, 3) := dk_180 0 246 (dk_at dksX4_zone_1 12 rfl rfl)
theorem dX4_zone_39 : decode cX4_zone 39 = .ok (.iconst 1, 1) := dk_4 (dk_at dksX4_zone_1 15 rfl rfl)
theorem dX4_zone_40 : decode cX4_zone 40 = .ok (.isub, 1) := dk_100 (dk_at dksX4_zone_1 16 rfl rfl)
theorem dX4_zone_41 : decode cX4_zone 41 = .ok (.invokevirtual 116, 3) := dk_182 0 116 (dk_at dksX4_zone_1 17 rfl rfl)
theorem dX4_zone_44 : decode cX4_zone 44 = .ok (.istore_n 3, 1) := dk_62 (dk_at dksX4_zone_1 20 rfl rfl)
theorem dX4_zone_45 : decode cX4_zone 45 = .ok (.aload_n 0, 1) := dk_42 (dk_at dksX4_zone_1 21 rfl rfl)
theorem dX4_zone_46 : decode cX4_zone 46 = .ok (.getfield 20, 3) := dk_180 0 20 (dk_at dksX4_zone_2 0 rfl rfl)
theorem dX4_zone_49 : decode cX4_zone 49 = .ok (.getfield 229, 3) := dk_180 0 229 (dk_at dksX4_zone_2 3 rfl rfl)
theorem dX4_zone_52 : decode cX4_zone 52 = .ok (.new 271, 3) := dk_187 1 15 (dk_at dksX4_zone_2 6 rfl rfl)
theorem dX4_zone_55 : decode cX4_zone 55 = .ok (.dup, 1) := dk_89 (dk_at dksX4_zone_2 9 rfl rfl)
theorem dX4_zone_56 : decode cX4_zone 56 = .ok (.iload_n 1, 1) := dk_27 (dk_at dksX4_zone_2 10 rfl rfl)
theorem dX4_zone_57 : decode cX4_zone 57 = .ok (.iload_n 2, 1) := dk_28 (dk_at dksX4_zone_2 11 rfl rfl)
theorem dX4_zone_58 : decode cX4_zone 58 = .ok (.iload_n 3, 1) := dk_29 (dk_at dksX4_zone_2 12 rfl rfl)
theorem dX4_zone_59 : decode cX4_zone 59 = .ok (.aload_n 0, 1) := dk_42 (dk_at dksX4_zone_2 13 rfl rfl)
theorem dX4_zone_60 : decode cX4_zone 60 = .ok (.iload_n 2, 1) := dk_28 (dk_at dksX4_zone_2 14 rfl rfl)
theorem dX4_zone_61 : decode cX4_zone 61 = .ok (.aload_n 0, 1) := dk_42 (dk_at dksX4_zone_2 15 rfl rfl)
theorem dX4_zone_62 : decode cX4_zone 62 = .ok (.getfield 20, 3) := dk_180 0 20 (dk_at dksX4_zone_2 16 rfl rfl)
theorem dX4_zone_65 : decode cX4_zone 65 = .ok (.getfield 243, 3) := dk_180 0 243 (dk_at dksX4_zone_2 19 rfl rfl)
theorem dX4_zone_68 : decode cX4_zone 68 = .ok (.iconst 1, 1) := dk_4 (dk_at dksX4_zone_2 22 rfl rfl)
theorem dX4_zone_69 : decode cX4_zone 69 = .ok (.isub, 1) := dk_100 (dk_at dksX4_zone_2 23 rfl rfl)
theorem dX4_zone_70 : decode cX4_zone 70 = .ok (.invokevirtual 116, 3) := dk_182 0 116 (dk_at dksX4_zone_3 0 rfl rfl)
theorem dX4_zone_73 : decode cX4_zone 73 = .ok (.invokespecial 273, 3) := dk_183 1 17 (dk_at dksX4_zone_3 3 rfl rfl)
theorem dX4_zone_76 : decode cX4_zone 76 = .ok (.invokeinterface 198 2, 5) := by decide +kernel
theorem dX4_zone_81 : decode cX4_zone 81 = .ok (.pop, 1) := dk_87 (dk_at dksX4_zone_3 11 rfl rfl)
theorem dX4_zone_82 : decode cX4_zone 82 = .ok (.return_, 1) := dk_177 (dk_at dksX4_zone_3 12 rfl rfl)
