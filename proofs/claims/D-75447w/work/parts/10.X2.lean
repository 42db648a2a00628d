/-! decode rows: X2.AcousticCameraModel.lean.txt -/
set_option maxRecDepth 100000
abbrev cX2_init : ByteArray := prog_15_method_1_code
def yX2_init : MethodName := ⟨RX2, "<init>", "()V"⟩
def dkwX2_init_6 : List UInt8 := [17, 0, 160, 188, 10, 181, 0, 61, 42, 17, 0, 200, 188, 10, 181, 0, 64, 177]
abbrev dktX2_init_6 : List UInt8 := dkwX2_init_6 ++ []
def dkwX2_init_5 : List UInt8 := [181, 0, 51, 42, 17, 0, 144, 188, 11, 181, 0, 54, 42, 17, 28, 32, 188, 11, 181, 0, 58, 42]
abbrev dktX2_init_5 : List UInt8 := dkwX2_init_5 ++ dktX2_init_6
def dkwX2_init_4 : List UInt8 := [188, 4, 181, 0, 41, 42, 2, 181, 0, 45, 42, 17, 0, 200, 188, 10, 181, 0, 48, 42, 16, 12, 188, 10]
abbrev dktX2_init_4 : List UInt8 := dkwX2_init_4 ++ dktX2_init_5
def dkwX2_init_3 : List UInt8 := [181, 0, 32, 42, 17, 19, 46, 188, 10, 181, 0, 35, 42, 17, 6, 192, 188, 10, 181, 0, 38, 42, 5]
abbrev dktX2_init_3 : List UInt8 := dkwX2_init_3 ++ dktX2_init_4
def dkwX2_init_2 : List UInt8 := [17, 9, 151, 188, 10, 181, 0, 26, 42, 17, 9, 151, 188, 10, 181, 0, 29, 42, 17, 57, 138, 188, 10]
abbrev dktX2_init_2 : List UInt8 := dkwX2_init_2 ++ dktX2_init_3
def dkwX2_init_1 : List UInt8 := [181, 0, 17, 42, 17, 0, 131, 188, 10, 181, 0, 20, 42, 17, 9, 151, 188, 10, 181, 0, 23, 42]
abbrev dktX2_init_1 : List UInt8 := dkwX2_init_1 ++ dktX2_init_2
def dkwX2_init_0 : List UInt8 := [42, 183, 0, 1, 42, 17, 3, 232, 188, 10, 181, 0, 9, 42, 2, 181, 0, 13, 42, 17, 0, 131, 188, 10]
abbrev dktX2_init_0 : List UInt8 := dkwX2_init_0 ++ dktX2_init_1
theorem dksX2_init_0 : cX2_init.data.toList.drop 0 = dktX2_init_0 := by decide +kernel
theorem dksX2_init_1 : cX2_init.data.toList.drop 24 = dktX2_init_1 := dk_seg dksX2_init_0 24 rfl rfl
theorem dksX2_init_2 : cX2_init.data.toList.drop 46 = dktX2_init_2 := dk_seg dksX2_init_1 22 rfl rfl
theorem dksX2_init_3 : cX2_init.data.toList.drop 69 = dktX2_init_3 := dk_seg dksX2_init_2 23 rfl rfl
theorem dksX2_init_4 : cX2_init.data.toList.drop 92 = dktX2_init_4 := dk_seg dksX2_init_3 23 rfl rfl
theorem dksX2_init_5 : cX2_init.data.toList.drop 116 = dktX2_init_5 := dk_seg dksX2_init_4 24 rfl rfl
theorem dksX2_init_6 : cX2_init.data.toList.drop 138 = dktX2_init_6 := dk_seg dksX2_init_5 22 rfl rfl
theorem dX2_init_0 : decode cX2_init 0 = .ok (.aload_n 0, 1) := dk_42 (dk_at dksX2_init_0 0 rfl rfl)
theorem dX2_init_1 : decode cX2_init 1 = .ok (.invokespecial 1, 3) := dk_183 0 1 (dk_at dksX2_init_0 1 rfl rfl)
theorem dX2_init_4 : decode cX2_init 4 = .ok (.aload_n 0, 1) := dk_42 (dk_at dksX2_init_0 4 rfl rfl)
theorem dX2_init_5 : decode cX2_init 5 = .ok (.sipush 1000, 3) := dk_17 3 232 (dk_at dksX2_init_0 5 rfl rfl)
theorem dX2_init_8 : decode cX2_init 8 = .ok (.newarray .int, 2) := dk_188_10 (dk_at dksX2_init_0 8 rfl rfl)
theorem dX2_init_10 : decode cX2_init 10 = .ok (.putfield 9, 3) := dk_181 0 9 (dk_at dksX2_init_0 10 rfl rfl)
theorem dX2_init_13 : decode cX2_init 13 = .ok (.aload_n 0, 1) := dk_42 (dk_at dksX2_init_0 13 rfl rfl)
theorem dX2_init_14 : decode cX2_init 14 = .ok (.iconst (-1), 1) := dk_2 (dk_at dksX2_init_0 14 rfl rfl)
theorem dX2_init_15 : decode cX2_init 15 = .ok (.putfield 13, 3) := dk_181 0 13 (dk_at dksX2_init_0 15 rfl rfl)
theorem dX2_init_18 : decode cX2_init 18 = .ok (.aload_n 0, 1) := dk_42 (dk_at dksX2_init_0 18 rfl rfl)
theorem dX2_init_19 : decode cX2_init 19 = .ok (.sipush 131, 3) := dk_17 0 131 (dk_at dksX2_init_0 19 rfl rfl)
theorem dX2_init_22 : decode cX2_init 22 = .ok (.newarray .int, 2) := dk_188_10 (dk_at dksX2_init_0 22 rfl rfl)
theorem dX2_init_24 : decode cX2_init 24 = .ok (.putfield 17, 3) := dk_181 0 17 (dk_at dksX2_init_1 0 rfl rfl)
theorem dX2_init_27 : decode cX2_init 27 = .ok (.aload_n 0, 1) := dk_42 (dk_at dksX2_init_1 3 rfl rfl)
theorem dX2_init_28 : decode cX2_init 28 = .ok (.sipush 131, 3) := dk_17 0 131 (dk_at dksX2_init_1 4 rfl rfl)
theorem dX2_init_31 : decode cX2_init 31 = .ok (.newarray .int, 2) := dk_188_10 (dk_at dksX2_init_1 7 rfl rfl)
theorem dX2_init_33 : decode cX2_init 33 = .ok (.putfield 20, 3) := dk_181 0 20 (dk_at dksX2_init_1 9 rfl rfl)
theorem dX2_init_36 : decode cX2_init 36 = .ok (.aload_n 0, 1) := dk_42 (dk_at dksX2_init_1 12 rfl rfl)
theorem dX2_init_37 : decode cX2_init 37 = .ok (.sipush 2455, 3) := dk_17 9 151 (dk_at dksX2_init_1 13 rfl rfl)
theorem dX2_init_40 : decode cX2_init 40 = .ok (.newarray .int, 2) := dk_188_10 (dk_at dksX2_init_1 16 rfl rfl)
theorem dX2_init_42 : decode cX2_init 42 = .ok (.putfield 23, 3) := dk_181 0 23 (dk_at dksX2_init_1 18 rfl rfl)
theorem dX2_init_45 : decode cX2_init 45 = .ok (.aload_n 0, 1) := dk_42 (dk_at dksX2_init_1 21 rfl rfl)
theorem dX2_init_46 : decode cX2_init 46 = .ok (.sipush 2455, 3) := dk_17 9 151 (dk_at dksX2_init_2 0 rfl rfl)
theorem dX2_init_49 : decode cX2_init 49 = .ok (.newarray .int, 2) := dk_188_10 (dk_at dksX2_init_2 3 rfl rfl)
theorem dX2_init_51 : decode cX2_init 51 = .ok (.putfield 26, 3) := dk_181 0 26 (dk_at dksX2_init_2 5 rfl rfl)
theorem dX2_init_54 : decode cX2_init 54 = .ok (.aload_n 0, 1) := dk_42 (dk_at dksX2_init_2 8 rfl rfl)
theorem dX2_init_55 : decode cX2_init 55 = .ok (.sipush 2455, 3) := dk_17 9 151 (dk_at dksX2_init_2 9 rfl rfl)
theorem dX2_init_58 : decode cX2_init 58 = .ok (.newarray .int, 2) := dk_188_10 (dk_at dksX2_init_2 12 rfl rfl)
theorem dX2_init_60 : decode cX2_init 60 = .ok (.putfield 29, 3) := dk_181 0 29 (dk_at dksX2_init_2 14 rfl rfl)
theorem dX2_init_63 : decode cX2_init 63 = .ok (.aload_n 0, 1) := dk_42 (dk_at dksX2_init_2 17 rfl rfl)
theorem dX2_init_64 : decode cX2_init 64 = .ok (.sipush 14730, 3) := dk_17 57 138 (dk_at dksX2_init_2 18 rfl rfl)
theorem dX2_init_67 : decode cX2_init 67 = .ok (.newarray .int, 2) := dk_188_10 (dk_at dksX2_init_2 21 rfl rfl)
theorem dX2_init_69 : decode cX2_init 69 = .ok (.putfield 32, 3) := dk_181 0 32 (dk_at dksX2_init_3 0 rfl rfl)
theorem dX2_init_72 : decode cX2_init 72 = .ok (.aload_n 0, 1) := dk_42 (dk_at dksX2_init_3 3 rfl rfl)
theorem dX2_init_73 : decode cX2_init 73 = .ok (.sipush 4910, 3) := dk_17 19 46 (dk_at dksX2_init_3 4 rfl rfl)
theorem dX2_init_76 : decode cX2_init 76 = .ok (.newarray .int, 2) := dk_188_10 (dk_at dksX2_init_3 7 rfl rfl)
theorem dX2_init_78 : decode cX2_init 78 = .ok (.putfield 35, 3) := dk_181 0 35 (dk_at dksX2_init_3 9 rfl rfl)
theorem dX2_init_81 : decode cX2_init 81 = .ok (.aload_n 0, 1) := dk_42 (dk_at dksX2_init_3 12 rfl rfl)
theorem dX2_init_82 : decode cX2_init 82 = .ok (.sipush 1728, 3) := dk_17 6 192 (dk_at dksX2_init_3 13 rfl rfl)
theorem dX2_init_85 : decode cX2_init 85 = .ok (.newarray .int, 2) := dk_188_10 (dk_at dksX2_init_3 16 rfl rfl)
theorem dX2_init_87 : decode cX2_init 87 = .ok (.putfield 38, 3) := dk_181 0 38 (dk_at dksX2_init_3 18 rfl rfl)
theorem dX2_init_90 : decode cX2_init 90 = .ok (.aload_n 0, 1) := dk_42 (dk_at dksX2_init_3 21 rfl rfl)
theorem dX2_init_91 : decode cX2_init 91 = .ok (.iconst 2, 1) := dk_5 (dk_at dksX2_init_3 22 rfl rfl)
theorem dX2_init_92 : decode cX2_init 92 = .ok (.newarray .boolean, 2) := dk_188_4 (dk_at dksX2_init_4 0 rfl rfl)
theorem dX2_init_94 : decode cX2_init 94 = .ok (.putfield 41, 3) := dk_181 0 41 (dk_at dksX2_init_4 2 rfl rfl)
theorem dX2_init_97 : decode cX2_init 97 = .ok (.aload_n 0, 1) := dk_42 (dk_at dksX2_init_4 5 rfl rfl)
theorem dX2_init_98 : decode cX2_init 98 = .ok (.iconst (-1), 1) := dk_2 (dk_at dksX2_init_4 6 rfl rfl)
theorem dX2_init_99 : decode cX2_init 99 = .ok (.putfield 45, 3) := dk_181 0 45 (dk_at dksX2_init_4 7 rfl rfl)
theorem dX2_init_102 : decode cX2_init 102 = .ok (.aload_n 0, 1) := dk_42 (dk_at dksX2_init_4 10 rfl rfl)
theorem dX2_init_103 : decode cX2_init 103 = .ok (.sipush 200, 3) := dk_17 0 200 (dk_at dksX2_init_4 11 rfl rfl)
theorem dX2_init_106 : decode cX2_init 106 = .ok (.newarray .int, 2) := dk_188_10 (dk_at dksX2_init_4 14 rfl rfl)
theorem dX2_init_108 : decode cX2_init 108 = .ok (.putfield 48, 3) := dk_181 0 48 (dk_at dksX2_init_4 16 rfl rfl)
theorem dX2_init_111 : decode cX2_init 111 = .ok (.aload_n 0, 1) := dk_42 (dk_at dksX2_init_4 19 rfl rfl)
theorem dX2_init_112 : decode cX2_init 112 = .ok (.bipush 12, 2) := dk_16 12 (dk_at dksX2_init_4 20 rfl rfl)
theorem dX2_init_114 : decode cX2_init 114 = .ok (.newarray .int, 2) := dk_188_10 (dk_at dksX2_init_4 22 rfl rfl)
theorem dX2_init_116 : decode cX2_init 116 = .ok (.putfield 51, 3) := dk_181 0 51 (dk_at dksX2_init_5 0 rfl rfl)
theorem dX2_init_119 : decode cX2_init 119 = .ok (.aload_n 0, 1) := dk_42 (dk_at dksX2_init_5 3 rfl rfl)
theorem dX2_init_120 : decode cX2_init 120 = .ok (.sipush 144, 3) := dk_17 0 144 (dk_at dksX2_init_5 4 rfl rfl)
theorem dX2_init_123 : decode cX2_init 123 = .ok (.newarray .long, 2) := dk_188_11 (dk_at dksX2_init_5 7 rfl rfl)
theorem dX2_init_125 : decode cX2_init 125 = .ok (.putfield 54, 3) := dk_181 0 54 (dk_at dksX2_init_5 9 rfl rfl)
theorem dX2_init_128 : decode cX2_init 128 = .ok (.aload_n 0, 1) := dk_42 (dk_at dksX2_init_5 12 rfl rfl)
theorem dX2_init_129 : decode cX2_init 129 = .ok (.sipush 7200, 3) := dk_17 28 32 (dk_at dksX2_init_5 13 rfl rfl)
theorem dX2_init_132 : decode cX2_init 132 = .ok (.newarray .long, 2) := dk_188_11 (dk_at dksX2_init_5 16 rfl rfl)
theorem dX2_init_134 : decode cX2_init 134 = .ok (.putfield 58, 3) := dk_181 0 58 (dk_at dksX2_init_5 18 rfl rfl)
theorem dX2_init_137 : decode cX2_init 137 = .ok (.aload_n 0, 1) := dk_42 (dk_at dksX2_init_5 21 rfl rfl)
theorem dX2_init_138 : decode cX2_init 138 = .ok (.sipush 160, 3) := dk_17 0 160 (dk_at dksX2_init_6 0 rfl rfl)
theorem dX2_init_141 : decode cX2_init 141 = .ok (.newarray .int, 2) := dk_188_10 (dk_at dksX2_init_6 3 rfl rfl)
theorem dX2_init_143 : decode cX2_init 143 = .ok (.putfield 61, 3) := dk_181 0 61 (dk_at dksX2_init_6 5 rfl rfl)
theorem dX2_init_146 : decode cX2_init 146 = .ok (.aload_n 0, 1) := dk_42 (dk_at dksX2_init_6 8 rfl rfl)
theorem dX2_init_147 : decode cX2_init 147 = .ok (.sipush 200, 3) := dk_17 0 200 (dk_at dksX2_init_6 9 rfl rfl)
theorem dX2_init_150 : decode cX2_init 150 = .ok (.newarray .int, 2) := dk_188_10 (dk_at dksX2_init_6 12 rfl rfl)
theorem dX2_init_152 : decode cX2_init 152 = .ok (.putfield 64, 3) := dk_181 0 64 (dk_at dksX2_init_6 14 rfl rfl)
theorem dX2_init_155 : decode cX2_init 155 = .ok (.return_, 1) := dk_177 (dk_at dksX2_init_6 17 rfl rfl)
abbrev cX2_thrown : ByteArray := prog_15_method_2_code
def yX2_thrown : MethodName := ⟨RX2, "thrown", "()I"⟩
theorem dX2_thrown_0 : decode cX2_thrown 0 = .ok (.aload_n 0, 1) := by decide +kernel
theorem dX2_thrown_1 : decode cX2_thrown 1 = .ok (.getfield 67, 3) := by decide +kernel
theorem dX2_thrown_4 : decode cX2_thrown 4 = .ok (.ireturn, 1) := by decide +kernel
abbrev cX2_append : ByteArray := prog_15_method_6_code
def yX2_append : MethodName := ⟨RX2, "append", "(IIIII)I"⟩
def dkwX2_append_2 : List UInt8 := [182, 0, 73, 42, 180, 0, 70, 172]
abbrev dktX2_append_2 : List UInt8 := dkwX2_append_2 ++ []
def dkwX2_append_1 : List UInt8 := [182, 0, 73, 42, 28, 182, 0, 73, 42, 29, 182, 0, 73, 42, 21, 4, 182, 0, 73, 42, 21, 5]
abbrev dktX2_append_1 : List UInt8 := dkwX2_append_1 ++ dktX2_append_2
def dkwX2_append_0 : List UInt8 := [42, 3, 181, 0, 67, 42, 180, 0, 70, 16, 20, 96, 17, 3, 232, 164, 0, 5, 2, 172, 42, 27]
abbrev dktX2_append_0 : List UInt8 := dkwX2_append_0 ++ dktX2_append_1
theorem dksX2_append_0 : cX2_append.data.toList.drop 0 = dktX2_append_0 := by decide +kernel
theorem dksX2_append_1 : cX2_append.data.toList.drop 22 = dktX2_append_1 := dk_seg dksX2_append_0 22 rfl rfl
theorem dksX2_append_2 : cX2_append.data.toList.drop 44 = dktX2_append_2 := dk_seg dksX2_append_1 22 rfl rfl
theorem dX2_append_0 : decode cX2_append 0 = .ok (.aload_n 0, 1) := dk_42 (dk_at dksX2_append_0 0 rfl rfl)
theorem dX2_append_1 : decode cX2_append 1 = .ok (.iconst 0, 1) := dk_3 (dk_at dksX2_append_0 1 rfl rfl)
theorem dX2_append_2 : decode cX2_append 2 = .ok (.putfield 67, 3) := dk_181 0 67 (dk_at dksX2_append_0 2 rfl rfl)
theorem dX2_append_5 : decode cX2_append 5 = .ok (.aload_n 0, 1) := dk_42 (dk_at dksX2_append_0 5 rfl rfl)
theorem dX2_append_6 : decode cX2_append 6 = .ok (.getfield 70, 3) := dk_180 0 70 (dk_at dksX2_append_0 6 rfl rfl)
theorem dX2_append_9 : decode cX2_append 9 = .ok (.bipush 20, 2) := dk_16 20 (dk_at dksX2_append_0 9 rfl rfl)
theorem dX2_append_11 : decode cX2_append 11 = .ok (.iadd, 1) := dk_96 (dk_at dksX2_append_0 11 rfl rfl)
theorem dX2_append_12 : decode cX2_append 12 = .ok (.sipush 1000, 3) := dk_17 3 232 (dk_at dksX2_append_0 12 rfl rfl)
theorem dX2_append_15 : decode cX2_append 15 = .ok (.if_icmp .le 5, 3) := dk_164 0 5 (dk_at dksX2_append_0 15 rfl rfl)
theorem dX2_append_18 : decode cX2_append 18 = .ok (.iconst (-1), 1) := dk_2 (dk_at dksX2_append_0 18 rfl rfl)
theorem dX2_append_19 : decode cX2_append 19 = .ok (.ireturn, 1) := dk_172 (dk_at dksX2_append_0 19 rfl rfl)
theorem dX2_append_20 : decode cX2_append 20 = .ok (.aload_n 0, 1) := dk_42 (dk_at dksX2_append_0 20 rfl rfl)
theorem dX2_append_21 : decode cX2_append 21 = .ok (.iload_n 1, 1) := dk_27 (dk_at dksX2_append_0 21 rfl rfl)
theorem dX2_append_22 : decode cX2_append 22 = .ok (.invokevirtual 73, 3) := dk_182 0 73 (dk_at dksX2_append_1 0 rfl rfl)
theorem dX2_append_25 : decode cX2_append 25 = .ok (.aload_n 0, 1) := dk_42 (dk_at dksX2_append_1 3 rfl rfl)
theorem dX2_append_26 : decode cX2_append 26 = .ok (.iload_n 2, 1) := dk_28 (dk_at dksX2_append_1 4 rfl rfl)
theorem dX2_append_27 : decode cX2_append 27 = .ok (.invokevirtual 73, 3) := dk_182 0 73 (dk_at dksX2_append_1 5 rfl rfl)
theorem dX2_append_30 : decode cX2_append 30 = .ok (.aload_n 0, 1) := dk_42 (dk_at dksX2_append_1 8 rfl rfl)
theorem dX2_append_31 : decode cX2_append 31 = .ok (.iload_n 3, 1) := dk_29 (dk_at dksX2_append_1 9 rfl rfl)
theorem dX2_append_32 : decode cX2_append 32 = .ok (.invokevirtual 73, 3) := dk_182 0 73 (dk_at dksX2_append_1 10 rfl rfl)
theorem dX2_append_35 : decode cX2_append 35 = .ok (.aload_n 0, 1) := dk_42 (dk_at dksX2_append_1 13 rfl rfl)
theorem dX2_append_36 : decode cX2_append 36 = .ok (.iload 4, 2) := dk_21 4 (dk_at dksX2_append_1 14 rfl rfl)
theorem dX2_append_38 : decode cX2_append 38 = .ok (.invokevirtual 73, 3) := dk_182 0 73 (dk_at dksX2_append_1 16 rfl rfl)
theorem dX2_append_41 : decode cX2_append 41 = .ok (.aload_n 0, 1) := dk_42 (dk_at dksX2_append_1 19 rfl rfl)
theorem dX2_append_42 : decode cX2_append 42 = .ok (.iload 5, 2) := dk_21 5 (dk_at dksX2_append_1 20 rfl rfl)
theorem dX2_append_44 : decode cX2_append 44 = .ok (.invokevirtual 73, 3) := dk_182 0 73 (dk_at dksX2_append_2 0 rfl rfl)
theorem dX2_append_47 : decode cX2_append 47 = .ok (.aload_n 0, 1) := dk_42 (dk_at dksX2_append_2 3 rfl rfl)
theorem dX2_append_48 : decode cX2_append 48 = .ok (.getfield 70, 3) := dk_180 0 70 (dk_at dksX2_append_2 4 rfl rfl)
theorem dX2_append_51 : decode cX2_append 51 = .ok (.ireturn, 1) := dk_172 (dk_at dksX2_append_2 7 rfl rfl)
abbrev cX2_four : ByteArray := prog_15_method_5_code
def yX2_four : MethodName := ⟨RX2, "four", "(I)V"⟩
def dkwX2_four_1 : List UInt8 := [89, 180, 0, 70, 4, 96, 181, 0, 70, 132, 2, 248, 167, 255, 223, 177]
abbrev dktX2_four_1 : List UInt8 := dkwX2_four_1 ++ []
def dkwX2_four_0 : List UInt8 := [16, 24, 61, 28, 155, 0, 35, 42, 180, 0, 9, 42, 180, 0, 70, 27, 28, 122, 17, 0, 255, 126, 79, 42]
abbrev dktX2_four_0 : List UInt8 := dkwX2_four_0 ++ dktX2_four_1
theorem dksX2_four_0 : cX2_four.data.toList.drop 0 = dktX2_four_0 := by decide +kernel
theorem dksX2_four_1 : cX2_four.data.toList.drop 24 = dktX2_four_1 := dk_seg dksX2_four_0 24 rfl rfl
theorem dX2_four_0 : decode cX2_four 0 = .ok (.bipush 24, 2) := dk_16 24 (dk_at dksX2_four_0 0 rfl rfl)
theorem dX2_four_2 : decode cX2_four 2 = .ok (.istore_n 2, 1) := dk_61 (dk_at dksX2_four_0 2 rfl rfl)
theorem dX2_four_3 : decode cX2_four 3 = .ok (.iload_n 2, 1) := dk_28 (dk_at dksX2_four_0 3 rfl rfl)
theorem dX2_four_4 : decode cX2_four 4 = .ok (.ifCond .lt 35, 3) := dk_155 0 35 (dk_at dksX2_four_0 4 rfl rfl)
theorem dX2_four_7 : decode cX2_four 7 = .ok (.aload_n 0, 1) := dk_42 (dk_at dksX2_four_0 7 rfl rfl)
theorem dX2_four_8 : decode cX2_four 8 = .ok (.getfield 9, 3) := dk_180 0 9 (dk_at dksX2_four_0 8 rfl rfl)
theorem dX2_four_11 : decode cX2_four 11 = .ok (.aload_n 0, 1) := dk_42 (dk_at dksX2_four_0 11 rfl rfl)
theorem dX2_four_12 : decode cX2_four 12 = .ok (.getfield 70, 3) := dk_180 0 70 (dk_at dksX2_four_0 12 rfl rfl)
theorem dX2_four_15 : decode cX2_four 15 = .ok (.iload_n 1, 1) := dk_27 (dk_at dksX2_four_0 15 rfl rfl)
theorem dX2_four_16 : decode cX2_four 16 = .ok (.iload_n 2, 1) := dk_28 (dk_at dksX2_four_0 16 rfl rfl)
theorem dX2_four_17 : decode cX2_four 17 = .ok (.ishr, 1) := dk_122 (dk_at dksX2_four_0 17 rfl rfl)
theorem dX2_four_18 : decode cX2_four 18 = .ok (.sipush 255, 3) := dk_17 0 255 (dk_at dksX2_four_0 18 rfl rfl)
theorem dX2_four_21 : decode cX2_four 21 = .ok (.iand, 1) := dk_126 (dk_at dksX2_four_0 21 rfl rfl)
theorem dX2_four_22 : decode cX2_four 22 = .ok (.iastore, 1) := dk_79 (dk_at dksX2_four_0 22 rfl rfl)
theorem dX2_four_23 : decode cX2_four 23 = .ok (.aload_n 0, 1) := dk_42 (dk_at dksX2_four_0 23 rfl rfl)
theorem dX2_four_24 : decode cX2_four 24 = .ok (.dup, 1) := dk_89 (dk_at dksX2_four_1 0 rfl rfl)
theorem dX2_four_25 : decode cX2_four 25 = .ok (.getfield 70, 3) := dk_180 0 70 (dk_at dksX2_four_1 1 rfl rfl)
theorem dX2_four_28 : decode cX2_four 28 = .ok (.iconst 1, 1) := dk_4 (dk_at dksX2_four_1 4 rfl rfl)
theorem dX2_four_29 : decode cX2_four 29 = .ok (.iadd, 1) := dk_96 (dk_at dksX2_four_1 5 rfl rfl)
theorem dX2_four_30 : decode cX2_four 30 = .ok (.putfield 70, 3) := dk_181 0 70 (dk_at dksX2_four_1 6 rfl rfl)
theorem dX2_four_33 : decode cX2_four 33 = .ok (.iinc 2 (-8), 3) := dk_132 2 248 (dk_at dksX2_four_1 9 rfl rfl)
theorem dX2_four_36 : decode cX2_four 36 = .ok (.goto (-33), 3) := dk_167 255 223 (dk_at dksX2_four_1 12 rfl rfl)
theorem dX2_four_39 : decode cX2_four 39 = .ok (.return_, 1) := dk_177 (dk_at dksX2_four_1 15 rfl rfl)
abbrev cX2_buffered : ByteArray := prog_15_method_7_code
def yX2_buffered : MethodName := ⟨RX2, "buffered", "()I"⟩
def dkwX2_buffered_0 : List UInt8 := [42, 3, 181, 0, 67, 42, 180, 0, 70, 172]
abbrev dktX2_buffered_0 : List UInt8 := dkwX2_buffered_0 ++ []
theorem dksX2_buffered_0 : cX2_buffered.data.toList.drop 0 = dktX2_buffered_0 := by decide +kernel
theorem dX2_buffered_0 : decode cX2_buffered 0 = .ok (.aload_n 0, 1) := dk_42 (dk_at dksX2_buffered_0 0 rfl rfl)
theorem dX2_buffered_1 : decode cX2_buffered 1 = .ok (.iconst 0, 1) := dk_3 (dk_at dksX2_buffered_0 1 rfl rfl)
theorem dX2_buffered_2 : decode cX2_buffered 2 = .ok (.putfield 67, 3) := dk_181 0 67 (dk_at dksX2_buffered_0 2 rfl rfl)
theorem dX2_buffered_5 : decode cX2_buffered 5 = .ok (.aload_n 0, 1) := dk_42 (dk_at dksX2_buffered_0 5 rfl rfl)
theorem dX2_buffered_6 : decode cX2_buffered 6 = .ok (.getfield 70, 3) := dk_180 0 70 (dk_at dksX2_buffered_0 6 rfl rfl)
theorem dX2_buffered_9 : decode cX2_buffered 9 = .ok (.ireturn, 1) := dk_172 (dk_at dksX2_buffered_0 9 rfl rfl)
abbrev cX2_parseError : ByteArray := prog_15_method_8_code
def yX2_parseError : MethodName := ⟨RX2, "parseError", "()I"⟩
def dkwX2_parseError_0 : List UInt8 := [42, 3, 181, 0, 67, 42, 180, 0, 77, 172]
abbrev dktX2_parseError_0 : List UInt8 := dkwX2_parseError_0 ++ []
theorem dksX2_parseError_0 : cX2_parseError.data.toList.drop 0 = dktX2_parseError_0 := by decide +kernel
theorem dX2_parseError_0 : decode cX2_parseError 0 = .ok (.aload_n 0, 1) := dk_42 (dk_at dksX2_parseError_0 0 rfl rfl)
theorem dX2_parseError_1 : decode cX2_parseError 1 = .ok (.iconst 0, 1) := dk_3 (dk_at dksX2_parseError_0 1 rfl rfl)
theorem dX2_parseError_2 : decode cX2_parseError 2 = .ok (.putfield 67, 3) := dk_181 0 67 (dk_at dksX2_parseError_0 2 rfl rfl)
theorem dX2_parseError_5 : decode cX2_parseError 5 = .ok (.aload_n 0, 1) := dk_42 (dk_at dksX2_parseError_0 5 rfl rfl)
theorem dX2_parseError_6 : decode cX2_parseError 6 = .ok (.getfield 77, 3) := dk_180 0 77 (dk_at dksX2_parseError_0 6 rfl rfl)
theorem dX2_parseError_9 : decode cX2_parseError 9 = .ok (.ireturn, 1) := dk_172 (dk_at dksX2_parseError_0 9 rfl rfl)
abbrev cX2_errorPosition : ByteArray := prog_15_method_9_code
def yX2_errorPosition : MethodName := ⟨RX2, "errorPosition", "()I"⟩
def dkwX2_errorPosition_0 : List UInt8 := [42, 3, 181, 0, 67, 42, 180, 0, 13, 172]
abbrev dktX2_errorPosition_0 : List UInt8 := dkwX2_errorPosition_0 ++ []
theorem dksX2_errorPosition_0 : cX2_errorPosition.data.toList.drop 0 = dktX2_errorPosition_0 := by decide +kernel
theorem dX2_errorPosition_0 : decode cX2_errorPosition 0 = .ok (.aload_n 0, 1) := dk_42 (dk_at dksX2_errorPosition_0 0 rfl rfl)
theorem dX2_errorPosition_1 : decode cX2_errorPosition 1 = .ok (.iconst 0, 1) := dk_3 (dk_at dksX2_errorPosition_0 1 rfl rfl)
theorem dX2_errorPosition_2 : decode cX2_errorPosition 2 = .ok (.putfield 67, 3) := dk_181 0 67 (dk_at dksX2_errorPosition_0 2 rfl rfl)
theorem dX2_errorPosition_5 : decode cX2_errorPosition 5 = .ok (.aload_n 0, 1) := dk_42 (dk_at dksX2_errorPosition_0 5 rfl rfl)
theorem dX2_errorPosition_6 : decode cX2_errorPosition 6 = .ok (.getfield 13, 3) := dk_180 0 13 (dk_at dksX2_errorPosition_0 6 rfl rfl)
theorem dX2_errorPosition_9 : decode cX2_errorPosition 9 = .ok (.ireturn, 1) := dk_172 (dk_at dksX2_errorPosition_0 9 rfl rfl)
abbrev cX2_load : ByteArray := prog_15_method_35_code
def yX2_load : MethodName := ⟨RX2, "load", "(I)I"⟩
def dkwX2_load_10 : List UInt8 := [180, 0, 41, 3, 3, 84, 42, 180, 0, 41, 4, 3, 84, 42, 3, 181, 0, 255, 42, 182, 0, 237, 172]
abbrev dktX2_load_10 : List UInt8 := dkwX2_load_10 ++ []
def dkwX2_load_9 : List UInt8 := [167, 255, 215, 132, 2, 1, 167, 255, 199, 42, 42, 180, 0, 23, 182, 0, 247, 42, 4, 181, 0, 251, 42]
abbrev dktX2_load_9 : List UInt8 := dkwX2_load_9 ++ dktX2_load_10
def dkwX2_load_8 : List UInt8 := [96, 42, 29, 42, 28, 3, 182, 0, 240, 42, 28, 4, 182, 0, 240, 182, 0, 243, 79, 132, 3, 1]
abbrev dktX2_load_8 : List UInt8 := dkwX2_load_8 ++ dktX2_load_9
def dkwX2_load_7 : List UInt8 := [162, 0, 55, 3, 62, 29, 42, 180, 0, 17, 7, 46, 162, 0, 37, 42, 180, 0, 38, 16, 12, 28, 104, 29]
abbrev dktX2_load_7 : List UInt8 := dkwX2_load_7 ++ dktX2_load_8
def dkwX2_load_6 : List UInt8 := [16, 119, 28, 96, 46, 167, 0, 4, 4, 79, 132, 2, 1, 167, 255, 210, 3, 61, 28, 42, 182, 0, 237]
abbrev dktX2_load_6 : List UInt8 := dkwX2_load_6 ++ dktX2_load_7
def dkwX2_load_5 : List UInt8 := [42, 180, 0, 23, 16, 13, 28, 96, 28, 42, 180, 0, 17, 16, 118, 46, 162, 0, 15, 42, 180, 0, 17]
abbrev dktX2_load_5 : List UInt8 := dkwX2_load_5 ++ dktX2_load_6
def dkwX2_load_4 : List UInt8 := [180, 0, 26, 3, 42, 180, 0, 23, 3, 184, 0, 233, 3, 61, 28, 42, 180, 0, 17, 7, 46, 162, 0, 42]
abbrev dktX2_load_4 : List UInt8 := dkwX2_load_4 ++ dktX2_load_5
def dkwX2_load_3 : List UInt8 := [162, 0, 21, 42, 180, 0, 17, 28, 42, 180, 0, 20, 28, 46, 79, 132, 2, 1, 167, 255, 234, 42]
abbrev dktX2_load_3 : List UInt8 := dkwX2_load_3 ++ dktX2_load_4
def dkwX2_load_2 : List UInt8 := [42, 182, 0, 230, 42, 180, 0, 77, 158, 0, 9, 42, 5, 182, 0, 227, 172, 3, 61, 28, 17, 0, 131]
abbrev dktX2_load_2 : List UInt8 := dkwX2_load_2 ++ dktX2_load_3
def dkwX2_load_1 : List UInt8 := [27, 181, 0, 80, 42, 3, 181, 0, 70, 42, 3, 181, 0, 86, 42, 3, 181, 0, 77, 42, 2, 181, 0, 13]
abbrev dktX2_load_1 : List UInt8 := dkwX2_load_1 ++ dktX2_load_2
def dkwX2_load_0 : List UInt8 := [42, 3, 181, 0, 67, 27, 3, 42, 180, 0, 70, 184, 0, 96, 154, 0, 9, 42, 4, 182, 0, 227, 172, 42]
abbrev dktX2_load_0 : List UInt8 := dkwX2_load_0 ++ dktX2_load_1
theorem dksX2_load_0 : cX2_load.data.toList.drop 0 = dktX2_load_0 := by decide +kernel
theorem dksX2_load_1 : cX2_load.data.toList.drop 24 = dktX2_load_1 := dk_seg dksX2_load_0 24 rfl rfl
theorem dksX2_load_2 : cX2_load.data.toList.drop 48 = dktX2_load_2 := dk_seg dksX2_load_1 24 rfl rfl
theorem dksX2_load_3 : cX2_load.data.toList.drop 71 = dktX2_load_3 := dk_seg dksX2_load_2 23 rfl rfl
theorem dksX2_load_4 : cX2_load.data.toList.drop 93 = dktX2_load_4 := dk_seg dksX2_load_3 22 rfl rfl
theorem dksX2_load_5 : cX2_load.data.toList.drop 117 = dktX2_load_5 := dk_seg dksX2_load_4 24 rfl rfl
theorem dksX2_load_6 : cX2_load.data.toList.drop 140 = dktX2_load_6 := dk_seg dksX2_load_5 23 rfl rfl
theorem dksX2_load_7 : cX2_load.data.toList.drop 163 = dktX2_load_7 := dk_seg dksX2_load_6 23 rfl rfl
theorem dksX2_load_8 : cX2_load.data.toList.drop 187 = dktX2_load_8 := dk_seg dksX2_load_7 24 rfl rfl
theorem dksX2_load_9 : cX2_load.data.toList.drop 209 = dktX2_load_9 := dk_seg dksX2_load_8 22 rfl rfl
theorem dksX2_load_10 : cX2_load.data.toList.drop 232 = dktX2_load_10 := dk_seg dksX2_load_9 23 rfl rfl
theorem dX2_load_0 : decode cX2_load 0 = .ok (.aload_n 0, 1) := dk_42 (dk_at dksX2_load_0 0 rfl rfl)
theorem dX2_load_1 : decode cX2_load 1 = .ok (.iconst 0, 1) := dk_3 (dk_at dksX2_load_0 1 rfl rfl)
theorem dX2_load_2 : decode cX2_load 2 = .ok (.putfield 67, 3) := dk_181 0 67 (dk_at dksX2_load_0 2 rfl rfl)
theorem dX2_load_5 : decode cX2_load 5 = .ok (.iload_n 1, 1) := dk_27 (dk_at dksX2_load_0 5 rfl rfl)
theorem dX2_load_6 : decode cX2_load 6 = .ok (.iconst 0, 1) := dk_3 (dk_at dksX2_load_0 6 rfl rfl)
theorem dX2_load_7 : decode cX2_load 7 = .ok (.aload_n 0, 1) := dk_42 (dk_at dksX2_load_0 7 rfl rfl)
theorem dX2_load_8 : decode cX2_load 8 = .ok (.getfield 70, 3) := dk_180 0 70 (dk_at dksX2_load_0 8 rfl rfl)
theorem dX2_load_11 : decode cX2_load 11 = .ok (.invokestatic 96, 3) := dk_184 0 96 (dk_at dksX2_load_0 11 rfl rfl)
theorem dX2_load_14 : decode cX2_load 14 = .ok (.ifCond .ne 9, 3) := dk_154 0 9 (dk_at dksX2_load_0 14 rfl rfl)
theorem dX2_load_17 : decode cX2_load 17 = .ok (.aload_n 0, 1) := dk_42 (dk_at dksX2_load_0 17 rfl rfl)
theorem dX2_load_18 : decode cX2_load 18 = .ok (.iconst 1, 1) := dk_4 (dk_at dksX2_load_0 18 rfl rfl)
theorem dX2_load_19 : decode cX2_load 19 = .ok (.invokevirtual 227, 3) := dk_182 0 227 (dk_at dksX2_load_0 19 rfl rfl)
theorem dX2_load_22 : decode cX2_load 22 = .ok (.ireturn, 1) := dk_172 (dk_at dksX2_load_0 22 rfl rfl)
theorem dX2_load_23 : decode cX2_load 23 = .ok (.aload_n 0, 1) := dk_42 (dk_at dksX2_load_0 23 rfl rfl)
theorem dX2_load_24 : decode cX2_load 24 = .ok (.iload_n 1, 1) := dk_27 (dk_at dksX2_load_1 0 rfl rfl)
theorem dX2_load_25 : decode cX2_load 25 = .ok (.putfield 80, 3) := dk_181 0 80 (dk_at dksX2_load_1 1 rfl rfl)
theorem dX2_load_28 : decode cX2_load 28 = .ok (.aload_n 0, 1) := dk_42 (dk_at dksX2_load_1 4 rfl rfl)
theorem dX2_load_29 : decode cX2_load 29 = .ok (.iconst 0, 1) := dk_3 (dk_at dksX2_load_1 5 rfl rfl)
theorem dX2_load_30 : decode cX2_load 30 = .ok (.putfield 70, 3) := dk_181 0 70 (dk_at dksX2_load_1 6 rfl rfl)
theorem dX2_load_33 : decode cX2_load 33 = .ok (.aload_n 0, 1) := dk_42 (dk_at dksX2_load_1 9 rfl rfl)
theorem dX2_load_34 : decode cX2_load 34 = .ok (.iconst 0, 1) := dk_3 (dk_at dksX2_load_1 10 rfl rfl)
theorem dX2_load_35 : decode cX2_load 35 = .ok (.putfield 86, 3) := dk_181 0 86 (dk_at dksX2_load_1 11 rfl rfl)
theorem dX2_load_38 : decode cX2_load 38 = .ok (.aload_n 0, 1) := dk_42 (dk_at dksX2_load_1 14 rfl rfl)
theorem dX2_load_39 : decode cX2_load 39 = .ok (.iconst 0, 1) := dk_3 (dk_at dksX2_load_1 15 rfl rfl)
theorem dX2_load_40 : decode cX2_load 40 = .ok (.putfield 77, 3) := dk_181 0 77 (dk_at dksX2_load_1 16 rfl rfl)
theorem dX2_load_43 : decode cX2_load 43 = .ok (.aload_n 0, 1) := dk_42 (dk_at dksX2_load_1 19 rfl rfl)
theorem dX2_load_44 : decode cX2_load 44 = .ok (.iconst (-1), 1) := dk_2 (dk_at dksX2_load_1 20 rfl rfl)
theorem dX2_load_45 : decode cX2_load 45 = .ok (.putfield 13, 3) := dk_181 0 13 (dk_at dksX2_load_1 21 rfl rfl)
theorem dX2_load_48 : decode cX2_load 48 = .ok (.aload_n 0, 1) := dk_42 (dk_at dksX2_load_2 0 rfl rfl)
theorem dX2_load_49 : decode cX2_load 49 = .ok (.invokevirtual 230, 3) := dk_182 0 230 (dk_at dksX2_load_2 1 rfl rfl)
theorem dX2_load_52 : decode cX2_load 52 = .ok (.aload_n 0, 1) := dk_42 (dk_at dksX2_load_2 4 rfl rfl)
theorem dX2_load_53 : decode cX2_load 53 = .ok (.getfield 77, 3) := dk_180 0 77 (dk_at dksX2_load_2 5 rfl rfl)
theorem dX2_load_56 : decode cX2_load 56 = .ok (.ifCond .le 9, 3) := dk_158 0 9 (dk_at dksX2_load_2 8 rfl rfl)
theorem dX2_load_59 : decode cX2_load 59 = .ok (.aload_n 0, 1) := dk_42 (dk_at dksX2_load_2 11 rfl rfl)
theorem dX2_load_60 : decode cX2_load 60 = .ok (.iconst 2, 1) := dk_5 (dk_at dksX2_load_2 12 rfl rfl)
theorem dX2_load_61 : decode cX2_load 61 = .ok (.invokevirtual 227, 3) := dk_182 0 227 (dk_at dksX2_load_2 13 rfl rfl)
theorem dX2_load_64 : decode cX2_load 64 = .ok (.ireturn, 1) := dk_172 (dk_at dksX2_load_2 16 rfl rfl)
theorem dX2_load_65 : decode cX2_load 65 = .ok (.iconst 0, 1) := dk_3 (dk_at dksX2_load_2 17 rfl rfl)
theorem dX2_load_66 : decode cX2_load 66 = .ok (.istore_n 2, 1) := dk_61 (dk_at dksX2_load_2 18 rfl rfl)
theorem dX2_load_67 : decode cX2_load 67 = .ok (.iload_n 2, 1) := dk_28 (dk_at dksX2_load_2 19 rfl rfl)
theorem dX2_load_68 : decode cX2_load 68 = .ok (.sipush 131, 3) := dk_17 0 131 (dk_at dksX2_load_2 20 rfl rfl)
theorem dX2_load_71 : decode cX2_load 71 = .ok (.if_icmp .ge 21, 3) := dk_162 0 21 (dk_at dksX2_load_3 0 rfl rfl)
theorem dX2_load_74 : decode cX2_load 74 = .ok (.aload_n 0, 1) := dk_42 (dk_at dksX2_load_3 3 rfl rfl)
theorem dX2_load_75 : decode cX2_load 75 = .ok (.getfield 17, 3) := dk_180 0 17 (dk_at dksX2_load_3 4 rfl rfl)
theorem dX2_load_78 : decode cX2_load 78 = .ok (.iload_n 2, 1) := dk_28 (dk_at dksX2_load_3 7 rfl rfl)
theorem dX2_load_79 : decode cX2_load 79 = .ok (.aload_n 0, 1) := dk_42 (dk_at dksX2_load_3 8 rfl rfl)
theorem dX2_load_80 : decode cX2_load 80 = .ok (.getfield 20, 3) := dk_180 0 20 (dk_at dksX2_load_3 9 rfl rfl)
theorem dX2_load_83 : decode cX2_load 83 = .ok (.iload_n 2, 1) := dk_28 (dk_at dksX2_load_3 12 rfl rfl)
theorem dX2_load_84 : decode cX2_load 84 = .ok (.iaload, 1) := dk_46 (dk_at dksX2_load_3 13 rfl rfl)
theorem dX2_load_85 : decode cX2_load 85 = .ok (.iastore, 1) := dk_79 (dk_at dksX2_load_3 14 rfl rfl)
theorem dX2_load_86 : decode cX2_load 86 = .ok (.iinc 2 1, 3) := dk_132 2 1 (dk_at dksX2_load_3 15 rfl rfl)
theorem dX2_load_89 : decode cX2_load 89 = .ok (.goto (-22), 3) := dk_167 255 234 (dk_at dksX2_load_3 18 rfl rfl)
theorem dX2_load_92 : decode cX2_load 92 = .ok (.aload_n 0, 1) := dk_42 (dk_at dksX2_load_3 21 rfl rfl)
theorem dX2_load_93 : decode cX2_load 93 = .ok (.getfield 26, 3) := dk_180 0 26 (dk_at dksX2_load_4 0 rfl rfl)
theorem dX2_load_96 : decode cX2_load 96 = .ok (.iconst 0, 1) := dk_3 (dk_at dksX2_load_4 3 rfl rfl)
theorem dX2_load_97 : decode cX2_load 97 = .ok (.aload_n 0, 1) := dk_42 (dk_at dksX2_load_4 4 rfl rfl)
theorem dX2_load_98 : decode cX2_load 98 = .ok (.getfield 23, 3) := dk_180 0 23 (dk_at dksX2_load_4 5 rfl rfl)
theorem dX2_load_101 : decode cX2_load 101 = .ok (.iconst 0, 1) := dk_3 (dk_at dksX2_load_4 8 rfl rfl)
theorem dX2_load_102 : decode cX2_load 102 = .ok (.invokestatic 233, 3) := dk_184 0 233 (dk_at dksX2_load_4 9 rfl rfl)
theorem dX2_load_105 : decode cX2_load 105 = .ok (.iconst 0, 1) := dk_3 (dk_at dksX2_load_4 12 rfl rfl)
theorem dX2_load_106 : decode cX2_load 106 = .ok (.istore_n 2, 1) := dk_61 (dk_at dksX2_load_4 13 rfl rfl)
theorem dX2_load_107 : decode cX2_load 107 = .ok (.iload_n 2, 1) := dk_28 (dk_at dksX2_load_4 14 rfl rfl)
theorem dX2_load_108 : decode cX2_load 108 = .ok (.aload_n 0, 1) := dk_42 (dk_at dksX2_load_4 15 rfl rfl)
theorem dX2_load_109 : decode cX2_load 109 = .ok (.getfield 17, 3) := dk_180 0 17 (dk_at dksX2_load_4 16 rfl rfl)
theorem dX2_load_112 : decode cX2_load 112 = .ok (.iconst 4, 1) := dk_7 (dk_at dksX2_load_4 19 rfl rfl)
theorem dX2_load_113 : decode cX2_load 113 = .ok (.iaload, 1) := dk_46 (dk_at dksX2_load_4 20 rfl rfl)
theorem dX2_load_114 : decode cX2_load 114 = .ok (.if_icmp .ge 42, 3) := dk_162 0 42 (dk_at dksX2_load_4 21 rfl rfl)
theorem dX2_load_117 : decode cX2_load 117 = .ok (.aload_n 0, 1) := dk_42 (dk_at dksX2_load_5 0 rfl rfl)
theorem dX2_load_118 : decode cX2_load 118 = .ok (.getfield 23, 3) := dk_180 0 23 (dk_at dksX2_load_5 1 rfl rfl)
theorem dX2_load_121 : decode cX2_load 121 = .ok (.bipush 13, 2) := dk_16 13 (dk_at dksX2_load_5 4 rfl rfl)
theorem dX2_load_123 : decode cX2_load 123 = .ok (.iload_n 2, 1) := dk_28 (dk_at dksX2_load_5 6 rfl rfl)
theorem dX2_load_124 : decode cX2_load 124 = .ok (.iadd, 1) := dk_96 (dk_at dksX2_load_5 7 rfl rfl)
theorem dX2_load_125 : decode cX2_load 125 = .ok (.iload_n 2, 1) := dk_28 (dk_at dksX2_load_5 8 rfl rfl)
theorem dX2_load_126 : decode cX2_load 126 = .ok (.aload_n 0, 1) := dk_42 (dk_at dksX2_load_5 9 rfl rfl)
theorem dX2_load_127 : decode cX2_load 127 = .ok (.getfield 17, 3) := dk_180 0 17 (dk_at dksX2_load_5 10 rfl rfl)
theorem dX2_load_130 : decode cX2_load 130 = .ok (.bipush 118, 2) := dk_16 118 (dk_at dksX2_load_5 13 rfl rfl)
theorem dX2_load_132 : decode cX2_load 132 = .ok (.iaload, 1) := dk_46 (dk_at dksX2_load_5 15 rfl rfl)
theorem dX2_load_133 : decode cX2_load 133 = .ok (.if_icmp .ge 15, 3) := dk_162 0 15 (dk_at dksX2_load_5 16 rfl rfl)
theorem dX2_load_136 : decode cX2_load 136 = .ok (.aload_n 0, 1) := dk_42 (dk_at dksX2_load_5 19 rfl rfl)
theorem dX2_load_137 : decode cX2_load 137 = .ok (.getfield 17, 3) := dk_180 0 17 (dk_at dksX2_load_5 20 rfl rfl)
theorem dX2_load_140 : decode cX2_load 140 = .ok (.bipush 119, 2) := dk_16 119 (dk_at dksX2_load_6 0 rfl rfl)
theorem dX2_load_142 : decode cX2_load 142 = .ok (.iload_n 2, 1) := dk_28 (dk_at dksX2_load_6 2 rfl rfl)
theorem dX2_load_143 : decode cX2_load 143 = .ok (.iadd, 1) := dk_96 (dk_at dksX2_load_6 3 rfl rfl)
theorem dX2_load_144 : decode cX2_load 144 = .ok (.iaload, 1) := dk_46 (dk_at dksX2_load_6 4 rfl rfl)
theorem dX2_load_145 : decode cX2_load 145 = .ok (.goto 4, 3) := dk_167 0 4 (dk_at dksX2_load_6 5 rfl rfl)
theorem dX2_load_148 : decode cX2_load 148 = .ok (.iconst 1, 1) := dk_4 (dk_at dksX2_load_6 8 rfl rfl)
theorem dX2_load_149 : decode cX2_load 149 = .ok (.iastore, 1) := dk_79 (dk_at dksX2_load_6 9 rfl rfl)
theorem dX2_load_150 : decode cX2_load 150 = .ok (.iinc 2 1, 3) := dk_132 2 1 (dk_at dksX2_load_6 10 rfl rfl)
theorem dX2_load_153 : decode cX2_load 153 = .ok (.goto (-46), 3) := dk_167 255 210 (dk_at dksX2_load_6 13 rfl rfl)
theorem dX2_load_156 : decode cX2_load 156 = .ok (.iconst 0, 1) := dk_3 (dk_at dksX2_load_6 16 rfl rfl)
theorem dX2_load_157 : decode cX2_load 157 = .ok (.istore_n 2, 1) := dk_61 (dk_at dksX2_load_6 17 rfl rfl)
theorem dX2_load_158 : decode cX2_load 158 = .ok (.iload_n 2, 1) := dk_28 (dk_at dksX2_load_6 18 rfl rfl)
theorem dX2_load_159 : decode cX2_load 159 = .ok (.aload_n 0, 1) := dk_42 (dk_at dksX2_load_6 19 rfl rfl)
theorem dX2_load_160 : decode cX2_load 160 = .ok (.invokevirtual 237, 3) := dk_182 0 237 (dk_at dksX2_load_6 20 rfl rfl)
theorem dX2_load_163 : decode cX2_load 163 = .ok (.if_icmp .ge 55, 3) := dk_162 0 55 (dk_at dksX2_load_7 0 rfl rfl)
theorem dX2_load_166 : decode cX2_load 166 = .ok (.iconst 0, 1) := dk_3 (dk_at dksX2_load_7 3 rfl rfl)
theorem dX2_load_167 : decode cX2_load 167 = .ok (.istore_n 3, 1) := dk_62 (dk_at dksX2_load_7 4 rfl rfl)
theorem dX2_load_168 : decode cX2_load 168 = .ok (.iload_n 3, 1) := dk_29 (dk_at dksX2_load_7 5 rfl rfl)
theorem dX2_load_169 : decode cX2_load 169 = .ok (.aload_n 0, 1) := dk_42 (dk_at dksX2_load_7 6 rfl rfl)
theorem dX2_load_170 : decode cX2_load 170 = .ok (.getfield 17, 3) := dk_180 0 17 (dk_at dksX2_load_7 7 rfl rfl)
theorem dX2_load_173 : decode cX2_load 173 = .ok (.iconst 4, 1) := dk_7 (dk_at dksX2_load_7 10 rfl rfl)
theorem dX2_load_174 : decode cX2_load 174 = .ok (.iaload, 1) := dk_46 (dk_at dksX2_load_7 11 rfl rfl)
theorem dX2_load_175 : decode cX2_load 175 = .ok (.if_icmp .ge 37, 3) := dk_162 0 37 (dk_at dksX2_load_7 12 rfl rfl)
theorem dX2_load_178 : decode cX2_load 178 = .ok (.aload_n 0, 1) := dk_42 (dk_at dksX2_load_7 15 rfl rfl)
theorem dX2_load_179 : decode cX2_load 179 = .ok (.getfield 38, 3) := dk_180 0 38 (dk_at dksX2_load_7 16 rfl rfl)
theorem dX2_load_182 : decode cX2_load 182 = .ok (.bipush 12, 2) := dk_16 12 (dk_at dksX2_load_7 19 rfl rfl)
theorem dX2_load_184 : decode cX2_load 184 = .ok (.iload_n 2, 1) := dk_28 (dk_at dksX2_load_7 21 rfl rfl)
theorem dX2_load_185 : decode cX2_load 185 = .ok (.imul, 1) := dk_104 (dk_at dksX2_load_7 22 rfl rfl)
theorem dX2_load_186 : decode cX2_load 186 = .ok (.iload_n 3, 1) := dk_29 (dk_at dksX2_load_7 23 rfl rfl)
theorem dX2_load_187 : decode cX2_load 187 = .ok (.iadd, 1) := dk_96 (dk_at dksX2_load_8 0 rfl rfl)
theorem dX2_load_188 : decode cX2_load 188 = .ok (.aload_n 0, 1) := dk_42 (dk_at dksX2_load_8 1 rfl rfl)
theorem dX2_load_189 : decode cX2_load 189 = .ok (.iload_n 3, 1) := dk_29 (dk_at dksX2_load_8 2 rfl rfl)
theorem dX2_load_190 : decode cX2_load 190 = .ok (.aload_n 0, 1) := dk_42 (dk_at dksX2_load_8 3 rfl rfl)
theorem dX2_load_191 : decode cX2_load 191 = .ok (.iload_n 2, 1) := dk_28 (dk_at dksX2_load_8 4 rfl rfl)
theorem dX2_load_192 : decode cX2_load 192 = .ok (.iconst 0, 1) := dk_3 (dk_at dksX2_load_8 5 rfl rfl)
theorem dX2_load_193 : decode cX2_load 193 = .ok (.invokevirtual 240, 3) := dk_182 0 240 (dk_at dksX2_load_8 6 rfl rfl)
theorem dX2_load_196 : decode cX2_load 196 = .ok (.aload_n 0, 1) := dk_42 (dk_at dksX2_load_8 9 rfl rfl)
theorem dX2_load_197 : decode cX2_load 197 = .ok (.iload_n 2, 1) := dk_28 (dk_at dksX2_load_8 10 rfl rfl)
theorem dX2_load_198 : decode cX2_load 198 = .ok (.iconst 1, 1) := dk_4 (dk_at dksX2_load_8 11 rfl rfl)
theorem dX2_load_199 : decode cX2_load 199 = .ok (.invokevirtual 240, 3) := dk_182 0 240 (dk_at dksX2_load_8 12 rfl rfl)
theorem dX2_load_202 : decode cX2_load 202 = .ok (.invokevirtual 243, 3) := dk_182 0 243 (dk_at dksX2_load_8 15 rfl rfl)
theorem dX2_load_205 : decode cX2_load 205 = .ok (.iastore, 1) := dk_79 (dk_at dksX2_load_8 18 rfl rfl)
theorem dX2_load_206 : decode cX2_load 206 = .ok (.iinc 3 1, 3) := dk_132 3 1 (dk_at dksX2_load_8 19 rfl rfl)
theorem dX2_load_209 : decode cX2_load 209 = .ok (.goto (-41), 3) := dk_167 255 215 (dk_at dksX2_load_9 0 rfl rfl)
theorem dX2_load_212 : decode cX2_load 212 = .ok (.iinc 2 1, 3) := dk_132 2 1 (dk_at dksX2_load_9 3 rfl rfl)
theorem dX2_load_215 : decode cX2_load 215 = .ok (.goto (-57), 3) := dk_167 255 199 (dk_at dksX2_load_9 6 rfl rfl)
theorem dX2_load_218 : decode cX2_load 218 = .ok (.aload_n 0, 1) := dk_42 (dk_at dksX2_load_9 9 rfl rfl)
theorem dX2_load_219 : decode cX2_load 219 = .ok (.aload_n 0, 1) := dk_42 (dk_at dksX2_load_9 10 rfl rfl)
theorem dX2_load_220 : decode cX2_load 220 = .ok (.getfield 23, 3) := dk_180 0 23 (dk_at dksX2_load_9 11 rfl rfl)
theorem dX2_load_223 : decode cX2_load 223 = .ok (.invokevirtual 247, 3) := dk_182 0 247 (dk_at dksX2_load_9 14 rfl rfl)
theorem dX2_load_226 : decode cX2_load 226 = .ok (.aload_n 0, 1) := dk_42 (dk_at dksX2_load_9 17 rfl rfl)
theorem dX2_load_227 : decode cX2_load 227 = .ok (.iconst 1, 1) := dk_4 (dk_at dksX2_load_9 18 rfl rfl)
theorem dX2_load_228 : decode cX2_load 228 = .ok (.putfield 251, 3) := dk_181 0 251 (dk_at dksX2_load_9 19 rfl rfl)
theorem dX2_load_231 : decode cX2_load 231 = .ok (.aload_n 0, 1) := dk_42 (dk_at dksX2_load_9 22 rfl rfl)
theorem dX2_load_232 : decode cX2_load 232 = .ok (.getfield 41, 3) := dk_180 0 41 (dk_at dksX2_load_10 0 rfl rfl)
theorem dX2_load_235 : decode cX2_load 235 = .ok (.iconst 0, 1) := dk_3 (dk_at dksX2_load_10 3 rfl rfl)
theorem dX2_load_236 : decode cX2_load 236 = .ok (.iconst 0, 1) := dk_3 (dk_at dksX2_load_10 4 rfl rfl)
theorem dX2_load_237 : decode cX2_load 237 = .ok (.bastore, 1) := dk_84 (dk_at dksX2_load_10 5 rfl rfl)
theorem dX2_load_238 : decode cX2_load 238 = .ok (.aload_n 0, 1) := dk_42 (dk_at dksX2_load_10 6 rfl rfl)
theorem dX2_load_239 : decode cX2_load 239 = .ok (.getfield 41, 3) := dk_180 0 41 (dk_at dksX2_load_10 7 rfl rfl)
theorem dX2_load_242 : decode cX2_load 242 = .ok (.iconst 1, 1) := dk_4 (dk_at dksX2_load_10 10 rfl rfl)
theorem dX2_load_243 : decode cX2_load 243 = .ok (.iconst 0, 1) := dk_3 (dk_at dksX2_load_10 11 rfl rfl)
theorem dX2_load_244 : decode cX2_load 244 = .ok (.bastore, 1) := dk_84 (dk_at dksX2_load_10 12 rfl rfl)
theorem dX2_load_245 : decode cX2_load 245 = .ok (.aload_n 0, 1) := dk_42 (dk_at dksX2_load_10 13 rfl rfl)
theorem dX2_load_246 : decode cX2_load 246 = .ok (.iconst 0, 1) := dk_3 (dk_at dksX2_load_10 14 rfl rfl)
theorem dX2_load_247 : decode cX2_load 247 = .ok (.putfield 255, 3) := dk_181 0 255 (dk_at dksX2_load_10 15 rfl rfl)
theorem dX2_load_250 : decode cX2_load 250 = .ok (.aload_n 0, 1) := dk_42 (dk_at dksX2_load_10 18 rfl rfl)
theorem dX2_load_251 : decode cX2_load 251 = .ok (.invokevirtual 237, 3) := dk_182 0 237 (dk_at dksX2_load_10 19 rfl rfl)
theorem dX2_load_254 : decode cX2_load 254 = .ok (.ireturn, 1) := dk_172 (dk_at dksX2_load_10 22 rfl rfl)
abbrev cX2_in : ByteArray := prog_15_method_3_code
def yX2_in : MethodName := ⟨RX2, "in", "(III)Z"⟩
def dkwX2_in_0 : List UInt8 := [26, 27, 161, 0, 12, 26, 28, 163, 0, 7, 4, 167, 0, 4, 3, 172]
abbrev dktX2_in_0 : List UInt8 := dkwX2_in_0 ++ []
theorem dksX2_in_0 : cX2_in.data.toList.drop 0 = dktX2_in_0 := by decide +kernel
theorem dX2_in_0 : decode cX2_in 0 = .ok (.iload_n 0, 1) := dk_26 (dk_at dksX2_in_0 0 rfl rfl)
theorem dX2_in_1 : decode cX2_in 1 = .ok (.iload_n 1, 1) := dk_27 (dk_at dksX2_in_0 1 rfl rfl)
theorem dX2_in_2 : decode cX2_in 2 = .ok (.if_icmp .lt 12, 3) := dk_161 0 12 (dk_at dksX2_in_0 2 rfl rfl)
theorem dX2_in_5 : decode cX2_in 5 = .ok (.iload_n 0, 1) := dk_26 (dk_at dksX2_in_0 5 rfl rfl)
theorem dX2_in_6 : decode cX2_in 6 = .ok (.iload_n 2, 1) := dk_28 (dk_at dksX2_in_0 6 rfl rfl)
theorem dX2_in_7 : decode cX2_in 7 = .ok (.if_icmp .gt 7, 3) := dk_163 0 7 (dk_at dksX2_in_0 7 rfl rfl)
theorem dX2_in_10 : decode cX2_in 10 = .ok (.iconst 1, 1) := dk_4 (dk_at dksX2_in_0 10 rfl rfl)
theorem dX2_in_11 : decode cX2_in 11 = .ok (.goto 4, 3) := dk_167 0 4 (dk_at dksX2_in_0 11 rfl rfl)
theorem dX2_in_14 : decode cX2_in 14 = .ok (.iconst 0, 1) := dk_3 (dk_at dksX2_in_0 14 rfl rfl)
theorem dX2_in_15 : decode cX2_in 15 = .ok (.ireturn, 1) := dk_172 (dk_at dksX2_in_0 15 rfl rfl)
abbrev cX2_throwsAt : ByteArray := prog_15_method_4_code
def yX2_throwsAt : MethodName := ⟨RX2, "throwsAt", "(I)I"⟩
def dkwX2_throwsAt_0 : List UInt8 := [42, 27, 181, 0, 67, 3, 172]
abbrev dktX2_throwsAt_0 : List UInt8 := dkwX2_throwsAt_0 ++ []
theorem dksX2_throwsAt_0 : cX2_throwsAt.data.toList.drop 0 = dktX2_throwsAt_0 := by decide +kernel
theorem dX2_throwsAt_0 : decode cX2_throwsAt 0 = .ok (.aload_n 0, 1) := dk_42 (dk_at dksX2_throwsAt_0 0 rfl rfl)
theorem dX2_throwsAt_1 : decode cX2_throwsAt 1 = .ok (.iload_n 1, 1) := dk_27 (dk_at dksX2_throwsAt_0 1 rfl rfl)
theorem dX2_throwsAt_2 : decode cX2_throwsAt 2 = .ok (.putfield 67, 3) := dk_181 0 67 (dk_at dksX2_throwsAt_0 2 rfl rfl)
theorem dX2_throwsAt_5 : decode cX2_throwsAt 5 = .ok (.iconst 0, 1) := dk_3 (dk_at dksX2_throwsAt_0 5 rfl rfl)
theorem dX2_throwsAt_6 : decode cX2_throwsAt 6 = .ok (.ireturn, 1) := dk_172 (dk_at dksX2_throwsAt_0 6 rfl rfl)
abbrev cX2_readText : ByteArray := prog_15_method_34_code
def yX2_readText : MethodName := ⟨RX2, "readText", "()V"⟩
def dkwX2_readText_4 : List UInt8 := [7, 46, 153, 0, 13, 42, 180, 0, 20, 16, 8, 46, 154, 0, 8, 42, 8, 182, 0, 127, 177]
abbrev dktX2_readText_4 : List UInt8 := dkwX2_readText_4 ++ []
def dkwX2_readText_3 : List UInt8 := [42, 180, 0, 77, 154, 0, 16, 42, 180, 0, 93, 4, 159, 0, 8, 42, 4, 182, 0, 127, 42, 180, 0, 20]
abbrev dktX2_readText_3 : List UInt8 := dkwX2_readText_3 ++ dktX2_readText_4
def dkwX2_readText_2 : List UInt8 := [42, 182, 0, 221, 42, 16, 59, 182, 0, 141, 153, 0, 14, 42, 182, 0, 121, 42, 182, 0, 224, 167, 255, 239]
abbrev dktX2_readText_2 : List UInt8 := dkwX2_readText_2 ++ dktX2_readText_3
def dkwX2_readText_1 : List UInt8 := [27, 17, 9, 151, 162, 0, 16, 42, 180, 0, 26, 27, 3, 79, 132, 1, 1, 167, 255, 239, 42, 182, 0, 121]
abbrev dktX2_readText_1 : List UInt8 := dkwX2_readText_1 ++ dktX2_readText_2
def dkwX2_readText_0 : List UInt8 := [3, 60, 27, 17, 0, 131, 162, 0, 16, 42, 180, 0, 20, 27, 3, 79, 132, 1, 1, 167, 255, 239, 3, 60]
abbrev dktX2_readText_0 : List UInt8 := dkwX2_readText_0 ++ dktX2_readText_1
theorem dksX2_readText_0 : cX2_readText.data.toList.drop 0 = dktX2_readText_0 := by decide +kernel
theorem dksX2_readText_1 : cX2_readText.data.toList.drop 24 = dktX2_readText_1 := dk_seg dksX2_readText_0 24 rfl rfl
theorem dksX2_readText_2 : cX2_readText.data.toList.drop 48 = dktX2_readText_2 := dk_seg dksX2_readText_1 24 rfl rfl
theorem dksX2_readText_3 : cX2_readText.data.toList.drop 72 = dktX2_readText_3 := dk_seg dksX2_readText_2 24 rfl rfl
theorem dksX2_readText_4 : cX2_readText.data.toList.drop 96 = dktX2_readText_4 := dk_seg dksX2_readText_3 24 rfl rfl
theorem dX2_readText_0 : decode cX2_readText 0 = .ok (.iconst 0, 1) := dk_3 (dk_at dksX2_readText_0 0 rfl rfl)
theorem dX2_readText_1 : decode cX2_readText 1 = .ok (.istore_n 1, 1) := dk_60 (dk_at dksX2_readText_0 1 rfl rfl)
theorem dX2_readText_2 : decode cX2_readText 2 = .ok (.iload_n 1, 1) := dk_27 (dk_at dksX2_readText_0 2 rfl rfl)
theorem dX2_readText_3 : decode cX2_readText 3 = .ok (.sipush 131, 3) := dk_17 0 131 (dk_at dksX2_readText_0 3 rfl rfl)
theorem dX2_readText_6 : decode cX2_readText 6 = .ok (.if_icmp .ge 16, 3) := dk_162 0 16 (dk_at dksX2_readText_0 6 rfl rfl)
theorem dX2_readText_9 : decode cX2_readText 9 = .ok (.aload_n 0, 1) := dk_42 (dk_at dksX2_readText_0 9 rfl rfl)
theorem dX2_readText_10 : decode cX2_readText 10 = .ok (.getfield 20, 3) := dk_180 0 20 (dk_at dksX2_readText_0 10 rfl rfl)
theorem dX2_readText_13 : decode cX2_readText 13 = .ok (.iload_n 1, 1) := dk_27 (dk_at dksX2_readText_0 13 rfl rfl)
theorem dX2_readText_14 : decode cX2_readText 14 = .ok (.iconst 0, 1) := dk_3 (dk_at dksX2_readText_0 14 rfl rfl)
theorem dX2_readText_15 : decode cX2_readText 15 = .ok (.iastore, 1) := dk_79 (dk_at dksX2_readText_0 15 rfl rfl)
theorem dX2_readText_16 : decode cX2_readText 16 = .ok (.iinc 1 1, 3) := dk_132 1 1 (dk_at dksX2_readText_0 16 rfl rfl)
theorem dX2_readText_19 : decode cX2_readText 19 = .ok (.goto (-17), 3) := dk_167 255 239 (dk_at dksX2_readText_0 19 rfl rfl)
theorem dX2_readText_22 : decode cX2_readText 22 = .ok (.iconst 0, 1) := dk_3 (dk_at dksX2_readText_0 22 rfl rfl)
theorem dX2_readText_23 : decode cX2_readText 23 = .ok (.istore_n 1, 1) := dk_60 (dk_at dksX2_readText_0 23 rfl rfl)
theorem dX2_readText_24 : decode cX2_readText 24 = .ok (.iload_n 1, 1) := dk_27 (dk_at dksX2_readText_1 0 rfl rfl)
theorem dX2_readText_25 : decode cX2_readText 25 = .ok (.sipush 2455, 3) := dk_17 9 151 (dk_at dksX2_readText_1 1 rfl rfl)
theorem dX2_readText_28 : decode cX2_readText 28 = .ok (.if_icmp .ge 16, 3) := dk_162 0 16 (dk_at dksX2_readText_1 4 rfl rfl)
theorem dX2_readText_31 : decode cX2_readText 31 = .ok (.aload_n 0, 1) := dk_42 (dk_at dksX2_readText_1 7 rfl rfl)
theorem dX2_readText_32 : decode cX2_readText 32 = .ok (.getfield 26, 3) := dk_180 0 26 (dk_at dksX2_readText_1 8 rfl rfl)
theorem dX2_readText_35 : decode cX2_readText 35 = .ok (.iload_n 1, 1) := dk_27 (dk_at dksX2_readText_1 11 rfl rfl)
theorem dX2_readText_36 : decode cX2_readText 36 = .ok (.iconst 0, 1) := dk_3 (dk_at dksX2_readText_1 12 rfl rfl)
theorem dX2_readText_37 : decode cX2_readText 37 = .ok (.iastore, 1) := dk_79 (dk_at dksX2_readText_1 13 rfl rfl)
theorem dX2_readText_38 : decode cX2_readText 38 = .ok (.iinc 1 1, 3) := dk_132 1 1 (dk_at dksX2_readText_1 14 rfl rfl)
theorem dX2_readText_41 : decode cX2_readText 41 = .ok (.goto (-17), 3) := dk_167 255 239 (dk_at dksX2_readText_1 17 rfl rfl)
theorem dX2_readText_44 : decode cX2_readText 44 = .ok (.aload_n 0, 1) := dk_42 (dk_at dksX2_readText_1 20 rfl rfl)
theorem dX2_readText_45 : decode cX2_readText 45 = .ok (.invokevirtual 121, 3) := dk_182 0 121 (dk_at dksX2_readText_1 21 rfl rfl)
theorem dX2_readText_48 : decode cX2_readText 48 = .ok (.aload_n 0, 1) := dk_42 (dk_at dksX2_readText_2 0 rfl rfl)
theorem dX2_readText_49 : decode cX2_readText 49 = .ok (.invokevirtual 221, 3) := dk_182 0 221 (dk_at dksX2_readText_2 1 rfl rfl)
theorem dX2_readText_52 : decode cX2_readText 52 = .ok (.aload_n 0, 1) := dk_42 (dk_at dksX2_readText_2 4 rfl rfl)
theorem dX2_readText_53 : decode cX2_readText 53 = .ok (.bipush 59, 2) := dk_16 59 (dk_at dksX2_readText_2 5 rfl rfl)
theorem dX2_readText_55 : decode cX2_readText 55 = .ok (.invokevirtual 141, 3) := dk_182 0 141 (dk_at dksX2_readText_2 7 rfl rfl)
theorem dX2_readText_58 : decode cX2_readText 58 = .ok (.ifCond .eq 14, 3) := dk_153 0 14 (dk_at dksX2_readText_2 10 rfl rfl)
theorem dX2_readText_61 : decode cX2_readText 61 = .ok (.aload_n 0, 1) := dk_42 (dk_at dksX2_readText_2 13 rfl rfl)
theorem dX2_readText_62 : decode cX2_readText 62 = .ok (.invokevirtual 121, 3) := dk_182 0 121 (dk_at dksX2_readText_2 14 rfl rfl)
theorem dX2_readText_65 : decode cX2_readText 65 = .ok (.aload_n 0, 1) := dk_42 (dk_at dksX2_readText_2 17 rfl rfl)
theorem dX2_readText_66 : decode cX2_readText 66 = .ok (.invokevirtual 224, 3) := dk_182 0 224 (dk_at dksX2_readText_2 18 rfl rfl)
theorem dX2_readText_69 : decode cX2_readText 69 = .ok (.goto (-17), 3) := dk_167 255 239 (dk_at dksX2_readText_2 21 rfl rfl)
theorem dX2_readText_72 : decode cX2_readText 72 = .ok (.aload_n 0, 1) := dk_42 (dk_at dksX2_readText_3 0 rfl rfl)
theorem dX2_readText_73 : decode cX2_readText 73 = .ok (.getfield 77, 3) := dk_180 0 77 (dk_at dksX2_readText_3 1 rfl rfl)
theorem dX2_readText_76 : decode cX2_readText 76 = .ok (.ifCond .ne 16, 3) := dk_154 0 16 (dk_at dksX2_readText_3 4 rfl rfl)
theorem dX2_readText_79 : decode cX2_readText 79 = .ok (.aload_n 0, 1) := dk_42 (dk_at dksX2_readText_3 7 rfl rfl)
theorem dX2_readText_80 : decode cX2_readText 80 = .ok (.getfield 93, 3) := dk_180 0 93 (dk_at dksX2_readText_3 8 rfl rfl)
theorem dX2_readText_83 : decode cX2_readText 83 = .ok (.iconst 1, 1) := dk_4 (dk_at dksX2_readText_3 11 rfl rfl)
theorem dX2_readText_84 : decode cX2_readText 84 = .ok (.if_icmp .eq 8, 3) := dk_159 0 8 (dk_at dksX2_readText_3 12 rfl rfl)
theorem dX2_readText_87 : decode cX2_readText 87 = .ok (.aload_n 0, 1) := dk_42 (dk_at dksX2_readText_3 15 rfl rfl)
theorem dX2_readText_88 : decode cX2_readText 88 = .ok (.iconst 1, 1) := dk_4 (dk_at dksX2_readText_3 16 rfl rfl)
theorem dX2_readText_89 : decode cX2_readText 89 = .ok (.invokevirtual 127, 3) := dk_182 0 127 (dk_at dksX2_readText_3 17 rfl rfl)
theorem dX2_readText_92 : decode cX2_readText 92 = .ok (.aload_n 0, 1) := dk_42 (dk_at dksX2_readText_3 20 rfl rfl)
theorem dX2_readText_93 : decode cX2_readText 93 = .ok (.getfield 20, 3) := dk_180 0 20 (dk_at dksX2_readText_3 21 rfl rfl)
theorem dX2_readText_96 : decode cX2_readText 96 = .ok (.iconst 4, 1) := dk_7 (dk_at dksX2_readText_4 0 rfl rfl)
theorem dX2_readText_97 : decode cX2_readText 97 = .ok (.iaload, 1) := dk_46 (dk_at dksX2_readText_4 1 rfl rfl)
theorem dX2_readText_98 : decode cX2_readText 98 = .ok (.ifCond .eq 13, 3) := dk_153 0 13 (dk_at dksX2_readText_4 2 rfl rfl)
theorem dX2_readText_101 : decode cX2_readText 101 = .ok (.aload_n 0, 1) := dk_42 (dk_at dksX2_readText_4 5 rfl rfl)
theorem dX2_readText_102 : decode cX2_readText 102 = .ok (.getfield 20, 3) := dk_180 0 20 (dk_at dksX2_readText_4 6 rfl rfl)
theorem dX2_readText_105 : decode cX2_readText 105 = .ok (.bipush 8, 2) := dk_16 8 (dk_at dksX2_readText_4 9 rfl rfl)
theorem dX2_readText_107 : decode cX2_readText 107 = .ok (.iaload, 1) := dk_46 (dk_at dksX2_readText_4 11 rfl rfl)
theorem dX2_readText_108 : decode cX2_readText 108 = .ok (.ifCond .ne 8, 3) := dk_154 0 8 (dk_at dksX2_readText_4 12 rfl rfl)
theorem dX2_readText_111 : decode cX2_readText 111 = .ok (.aload_n 0, 1) := dk_42 (dk_at dksX2_readText_4 15 rfl rfl)
theorem dX2_readText_112 : decode cX2_readText 112 = .ok (.iconst 5, 1) := dk_8 (dk_at dksX2_readText_4 16 rfl rfl)
theorem dX2_readText_113 : decode cX2_readText 113 = .ok (.invokevirtual 127, 3) := dk_182 0 127 (dk_at dksX2_readText_4 17 rfl rfl)
theorem dX2_readText_116 : decode cX2_readText 116 = .ok (.return_, 1) := dk_177 (dk_at dksX2_readText_4 20 rfl rfl)
abbrev cX2_nextToken : ByteArray := prog_15_method_13_code
def yX2_nextToken : MethodName := ⟨RX2, "nextToken", "()V"⟩
def dkwX2_nextToken_12 : List UInt8 := [3, 181, 0, 93, 42, 89, 180, 0, 86, 4, 96, 181, 0, 86, 177]
abbrev dktX2_nextToken_12 : List UInt8 := dkwX2_nextToken_12 ++ []
def dkwX2_nextToken_11 : List UInt8 := [180, 0, 86, 182, 0, 89, 181, 0, 100, 42, 42, 180, 0, 100, 184, 0, 103, 153, 0, 7, 7, 167, 0, 4]
abbrev dktX2_nextToken_11 : List UInt8 := dkwX2_nextToken_11 ++ dktX2_nextToken_12
def dkwX2_nextToken_10 : List UInt8 := [180, 0, 83, 100, 7, 164, 0, 7, 3, 167, 0, 4, 6, 181, 0, 93, 167, 0, 44, 42, 42, 42]
abbrev dktX2_nextToken_10 : List UInt8 := dkwX2_nextToken_10 ++ dktX2_nextToken_11
def dkwX2_nextToken_9 : List UInt8 := [100, 181, 0, 100, 42, 89, 180, 0, 86, 4, 96, 181, 0, 86, 167, 255, 192, 42, 42, 180, 0, 86, 42]
abbrev dktX2_nextToken_9 : List UInt8 := dkwX2_nextToken_9 ++ dktX2_nextToken_10
def dkwX2_nextToken_8 : List UInt8 := [100, 7, 162, 0, 26, 42, 16, 10, 42, 180, 0, 100, 104, 42, 42, 180, 0, 86, 182, 0, 89, 96, 16, 48]
abbrev dktX2_nextToken_8 : List UInt8 := dkwX2_nextToken_8 ++ dktX2_nextToken_9
def dkwX2_nextToken_7 : List UInt8 := [180, 0, 86, 182, 0, 89, 16, 48, 16, 57, 184, 0, 96, 153, 0, 52, 42, 180, 0, 86, 42, 180, 0, 83]
abbrev dktX2_nextToken_7 : List UInt8 := dkwX2_nextToken_7 ++ dktX2_nextToken_8
def dkwX2_nextToken_6 : List UInt8 := [180, 0, 86, 182, 0, 89, 16, 48, 16, 57, 184, 0, 96, 153, 0, 100, 42, 3, 181, 0, 100, 42, 42]
abbrev dktX2_nextToken_6 : List UInt8 := dkwX2_nextToken_6 ++ dktX2_nextToken_7
def dkwX2_nextToken_5 : List UInt8 := [180, 0, 83, 100, 16, 8, 164, 0, 7, 3, 167, 0, 4, 5, 181, 0, 93, 167, 0, 159, 42, 42]
abbrev dktX2_nextToken_5 : List UInt8 := dkwX2_nextToken_5 ++ dktX2_nextToken_6
def dkwX2_nextToken_4 : List UInt8 := [153, 0, 16, 42, 89, 180, 0, 86, 4, 96, 181, 0, 86, 167, 255, 228, 42, 42, 180, 0, 86, 42]
abbrev dktX2_nextToken_4 : List UInt8 := dkwX2_nextToken_4 ++ dktX2_nextToken_5
def dkwX2_nextToken_3 : List UInt8 := [16, 122, 184, 0, 96, 153, 0, 60, 42, 42, 180, 0, 86, 182, 0, 89, 16, 97, 16, 122, 184, 0, 96]
abbrev dktX2_nextToken_3 : List UInt8 := dkwX2_nextToken_3 ++ dktX2_nextToken_4
def dkwX2_nextToken_2 : List UInt8 := [180, 0, 80, 160, 0, 11, 42, 4, 181, 0, 93, 167, 0, 234, 42, 42, 180, 0, 86, 182, 0, 89, 16, 97]
abbrev dktX2_nextToken_2 : List UInt8 := dkwX2_nextToken_2 ++ dktX2_nextToken_3
def dkwX2_nextToken_1 : List UInt8 := [180, 0, 86, 4, 96, 181, 0, 86, 167, 255, 233, 42, 42, 180, 0, 86, 181, 0, 83, 42, 180, 0, 86, 42]
abbrev dktX2_nextToken_1 : List UInt8 := dkwX2_nextToken_1 ++ dktX2_nextToken_2
def dkwX2_nextToken_0 : List UInt8 := [42, 180, 0, 77, 158, 0, 4, 177, 42, 42, 180, 0, 86, 182, 0, 89, 16, 32, 160, 0, 16, 42, 89]
abbrev dktX2_nextToken_0 : List UInt8 := dkwX2_nextToken_0 ++ dktX2_nextToken_1
theorem dksX2_nextToken_0 : cX2_nextToken.data.toList.drop 0 = dktX2_nextToken_0 := by decide +kernel
theorem dksX2_nextToken_1 : cX2_nextToken.data.toList.drop 23 = dktX2_nextToken_1 := dk_seg dksX2_nextToken_0 23 rfl rfl
theorem dksX2_nextToken_2 : cX2_nextToken.data.toList.drop 47 = dktX2_nextToken_2 := dk_seg dksX2_nextToken_1 24 rfl rfl
theorem dksX2_nextToken_3 : cX2_nextToken.data.toList.drop 71 = dktX2_nextToken_3 := dk_seg dksX2_nextToken_2 24 rfl rfl
theorem dksX2_nextToken_4 : cX2_nextToken.data.toList.drop 94 = dktX2_nextToken_4 := dk_seg dksX2_nextToken_3 23 rfl rfl
theorem dksX2_nextToken_5 : cX2_nextToken.data.toList.drop 116 = dktX2_nextToken_5 := dk_seg dksX2_nextToken_4 22 rfl rfl
theorem dksX2_nextToken_6 : cX2_nextToken.data.toList.drop 138 = dktX2_nextToken_6 := dk_seg dksX2_nextToken_5 22 rfl rfl
theorem dksX2_nextToken_7 : cX2_nextToken.data.toList.drop 161 = dktX2_nextToken_7 := dk_seg dksX2_nextToken_6 23 rfl rfl
theorem dksX2_nextToken_8 : cX2_nextToken.data.toList.drop 185 = dktX2_nextToken_8 := dk_seg dksX2_nextToken_7 24 rfl rfl
theorem dksX2_nextToken_9 : cX2_nextToken.data.toList.drop 209 = dktX2_nextToken_9 := dk_seg dksX2_nextToken_8 24 rfl rfl
theorem dksX2_nextToken_10 : cX2_nextToken.data.toList.drop 232 = dktX2_nextToken_10 := dk_seg dksX2_nextToken_9 23 rfl rfl
theorem dksX2_nextToken_11 : cX2_nextToken.data.toList.drop 254 = dktX2_nextToken_11 := dk_seg dksX2_nextToken_10 22 rfl rfl
theorem dksX2_nextToken_12 : cX2_nextToken.data.toList.drop 278 = dktX2_nextToken_12 := dk_seg dksX2_nextToken_11 24 rfl rfl
theorem dX2_nextToken_0 : decode cX2_nextToken 0 = .ok (.aload_n 0, 1) := dk_42 (dk_at dksX2_nextToken_0 0 rfl rfl)
theorem dX2_nextToken_1 : decode cX2_nextToken 1 = .ok (.getfield 77, 3) := dk_180 0 77 (dk_at dksX2_nextToken_0 1 rfl rfl)
theorem dX2_nextToken_4 : decode cX2_nextToken 4 = .ok (.ifCond .le 4, 3) := dk_158 0 4 (dk_at dksX2_nextToken_0 4 rfl rfl)
theorem dX2_nextToken_7 : decode cX2_nextToken 7 = .ok (.return_, 1) := dk_177 (dk_at dksX2_nextToken_0 7 rfl rfl)
theorem dX2_nextToken_8 : decode cX2_nextToken 8 = .ok (.aload_n 0, 1) := dk_42 (dk_at dksX2_nextToken_0 8 rfl rfl)
theorem dX2_nextToken_9 : decode cX2_nextToken 9 = .ok (.aload_n 0, 1) := dk_42 (dk_at dksX2_nextToken_0 9 rfl rfl)
theorem dX2_nextToken_10 : decode cX2_nextToken 10 = .ok (.getfield 86, 3) := dk_180 0 86 (dk_at dksX2_nextToken_0 10 rfl rfl)
theorem dX2_nextToken_13 : decode cX2_nextToken 13 = .ok (.invokevirtual 89, 3) := dk_182 0 89 (dk_at dksX2_nextToken_0 13 rfl rfl)
theorem dX2_nextToken_16 : decode cX2_nextToken 16 = .ok (.bipush 32, 2) := dk_16 32 (dk_at dksX2_nextToken_0 16 rfl rfl)
theorem dX2_nextToken_18 : decode cX2_nextToken 18 = .ok (.if_icmp .ne 16, 3) := dk_160 0 16 (dk_at dksX2_nextToken_0 18 rfl rfl)
theorem dX2_nextToken_21 : decode cX2_nextToken 21 = .ok (.aload_n 0, 1) := dk_42 (dk_at dksX2_nextToken_0 21 rfl rfl)
theorem dX2_nextToken_22 : decode cX2_nextToken 22 = .ok (.dup, 1) := dk_89 (dk_at dksX2_nextToken_0 22 rfl rfl)
theorem dX2_nextToken_23 : decode cX2_nextToken 23 = .ok (.getfield 86, 3) := dk_180 0 86 (dk_at dksX2_nextToken_1 0 rfl rfl)
theorem dX2_nextToken_26 : decode cX2_nextToken 26 = .ok (.iconst 1, 1) := dk_4 (dk_at dksX2_nextToken_1 3 rfl rfl)
theorem dX2_nextToken_27 : decode cX2_nextToken 27 = .ok (.iadd, 1) := dk_96 (dk_at dksX2_nextToken_1 4 rfl rfl)
theorem dX2_nextToken_28 : decode cX2_nextToken 28 = .ok (.putfield 86, 3) := dk_181 0 86 (dk_at dksX2_nextToken_1 5 rfl rfl)
theorem dX2_nextToken_31 : decode cX2_nextToken 31 = .ok (.goto (-23), 3) := dk_167 255 233 (dk_at dksX2_nextToken_1 8 rfl rfl)
theorem dX2_nextToken_34 : decode cX2_nextToken 34 = .ok (.aload_n 0, 1) := dk_42 (dk_at dksX2_nextToken_1 11 rfl rfl)
theorem dX2_nextToken_35 : decode cX2_nextToken 35 = .ok (.aload_n 0, 1) := dk_42 (dk_at dksX2_nextToken_1 12 rfl rfl)
theorem dX2_nextToken_36 : decode cX2_nextToken 36 = .ok (.getfield 86, 3) := dk_180 0 86 (dk_at dksX2_nextToken_1 13 rfl rfl)
theorem dX2_nextToken_39 : decode cX2_nextToken 39 = .ok (.putfield 83, 3) := dk_181 0 83 (dk_at dksX2_nextToken_1 16 rfl rfl)
theorem dX2_nextToken_42 : decode cX2_nextToken 42 = .ok (.aload_n 0, 1) := dk_42 (dk_at dksX2_nextToken_1 19 rfl rfl)
theorem dX2_nextToken_43 : decode cX2_nextToken 43 = .ok (.getfield 86, 3) := dk_180 0 86 (dk_at dksX2_nextToken_1 20 rfl rfl)
theorem dX2_nextToken_46 : decode cX2_nextToken 46 = .ok (.aload_n 0, 1) := dk_42 (dk_at dksX2_nextToken_1 23 rfl rfl)
theorem dX2_nextToken_47 : decode cX2_nextToken 47 = .ok (.getfield 80, 3) := dk_180 0 80 (dk_at dksX2_nextToken_2 0 rfl rfl)
theorem dX2_nextToken_50 : decode cX2_nextToken 50 = .ok (.if_icmp .ne 11, 3) := dk_160 0 11 (dk_at dksX2_nextToken_2 3 rfl rfl)
theorem dX2_nextToken_53 : decode cX2_nextToken 53 = .ok (.aload_n 0, 1) := dk_42 (dk_at dksX2_nextToken_2 6 rfl rfl)
theorem dX2_nextToken_54 : decode cX2_nextToken 54 = .ok (.iconst 1, 1) := dk_4 (dk_at dksX2_nextToken_2 7 rfl rfl)
theorem dX2_nextToken_55 : decode cX2_nextToken 55 = .ok (.putfield 93, 3) := dk_181 0 93 (dk_at dksX2_nextToken_2 8 rfl rfl)
theorem dX2_nextToken_58 : decode cX2_nextToken 58 = .ok (.goto 234, 3) := dk_167 0 234 (dk_at dksX2_nextToken_2 11 rfl rfl)
theorem dX2_nextToken_61 : decode cX2_nextToken 61 = .ok (.aload_n 0, 1) := dk_42 (dk_at dksX2_nextToken_2 14 rfl rfl)
theorem dX2_nextToken_62 : decode cX2_nextToken 62 = .ok (.aload_n 0, 1) := dk_42 (dk_at dksX2_nextToken_2 15 rfl rfl)
theorem dX2_nextToken_63 : decode cX2_nextToken 63 = .ok (.getfield 86, 3) := dk_180 0 86 (dk_at dksX2_nextToken_2 16 rfl rfl)
theorem dX2_nextToken_66 : decode cX2_nextToken 66 = .ok (.invokevirtual 89, 3) := dk_182 0 89 (dk_at dksX2_nextToken_2 19 rfl rfl)
theorem dX2_nextToken_69 : decode cX2_nextToken 69 = .ok (.bipush 97, 2) := dk_16 97 (dk_at dksX2_nextToken_2 22 rfl rfl)
theorem dX2_nextToken_71 : decode cX2_nextToken 71 = .ok (.bipush 122, 2) := dk_16 122 (dk_at dksX2_nextToken_3 0 rfl rfl)
theorem dX2_nextToken_73 : decode cX2_nextToken 73 = .ok (.invokestatic 96, 3) := dk_184 0 96 (dk_at dksX2_nextToken_3 2 rfl rfl)
theorem dX2_nextToken_76 : decode cX2_nextToken 76 = .ok (.ifCond .eq 60, 3) := dk_153 0 60 (dk_at dksX2_nextToken_3 5 rfl rfl)
theorem dX2_nextToken_79 : decode cX2_nextToken 79 = .ok (.aload_n 0, 1) := dk_42 (dk_at dksX2_nextToken_3 8 rfl rfl)
theorem dX2_nextToken_80 : decode cX2_nextToken 80 = .ok (.aload_n 0, 1) := dk_42 (dk_at dksX2_nextToken_3 9 rfl rfl)
theorem dX2_nextToken_81 : decode cX2_nextToken 81 = .ok (.getfield 86, 3) := dk_180 0 86 (dk_at dksX2_nextToken_3 10 rfl rfl)
theorem dX2_nextToken_84 : decode cX2_nextToken 84 = .ok (.invokevirtual 89, 3) := dk_182 0 89 (dk_at dksX2_nextToken_3 13 rfl rfl)
theorem dX2_nextToken_87 : decode cX2_nextToken 87 = .ok (.bipush 97, 2) := dk_16 97 (dk_at dksX2_nextToken_3 16 rfl rfl)
theorem dX2_nextToken_89 : decode cX2_nextToken 89 = .ok (.bipush 122, 2) := dk_16 122 (dk_at dksX2_nextToken_3 18 rfl rfl)
theorem dX2_nextToken_91 : decode cX2_nextToken 91 = .ok (.invokestatic 96, 3) := dk_184 0 96 (dk_at dksX2_nextToken_3 20 rfl rfl)
theorem dX2_nextToken_94 : decode cX2_nextToken 94 = .ok (.ifCond .eq 16, 3) := dk_153 0 16 (dk_at dksX2_nextToken_4 0 rfl rfl)
theorem dX2_nextToken_97 : decode cX2_nextToken 97 = .ok (.aload_n 0, 1) := dk_42 (dk_at dksX2_nextToken_4 3 rfl rfl)
theorem dX2_nextToken_98 : decode cX2_nextToken 98 = .ok (.dup, 1) := dk_89 (dk_at dksX2_nextToken_4 4 rfl rfl)
theorem dX2_nextToken_99 : decode cX2_nextToken 99 = .ok (.getfield 86, 3) := dk_180 0 86 (dk_at dksX2_nextToken_4 5 rfl rfl)
theorem dX2_nextToken_102 : decode cX2_nextToken 102 = .ok (.iconst 1, 1) := dk_4 (dk_at dksX2_nextToken_4 8 rfl rfl)
theorem dX2_nextToken_103 : decode cX2_nextToken 103 = .ok (.iadd, 1) := dk_96 (dk_at dksX2_nextToken_4 9 rfl rfl)
theorem dX2_nextToken_104 : decode cX2_nextToken 104 = .ok (.putfield 86, 3) := dk_181 0 86 (dk_at dksX2_nextToken_4 10 rfl rfl)
theorem dX2_nextToken_107 : decode cX2_nextToken 107 = .ok (.goto (-28), 3) := dk_167 255 228 (dk_at dksX2_nextToken_4 13 rfl rfl)
theorem dX2_nextToken_110 : decode cX2_nextToken 110 = .ok (.aload_n 0, 1) := dk_42 (dk_at dksX2_nextToken_4 16 rfl rfl)
theorem dX2_nextToken_111 : decode cX2_nextToken 111 = .ok (.aload_n 0, 1) := dk_42 (dk_at dksX2_nextToken_4 17 rfl rfl)
theorem dX2_nextToken_112 : decode cX2_nextToken 112 = .ok (.getfield 86, 3) := dk_180 0 86 (dk_at dksX2_nextToken_4 18 rfl rfl)
theorem dX2_nextToken_115 : decode cX2_nextToken 115 = .ok (.aload_n 0, 1) := dk_42 (dk_at dksX2_nextToken_4 21 rfl rfl)
theorem dX2_nextToken_116 : decode cX2_nextToken 116 = .ok (.getfield 83, 3) := dk_180 0 83 (dk_at dksX2_nextToken_5 0 rfl rfl)
theorem dX2_nextToken_119 : decode cX2_nextToken 119 = .ok (.isub, 1) := dk_100 (dk_at dksX2_nextToken_5 3 rfl rfl)
theorem dX2_nextToken_120 : decode cX2_nextToken 120 = .ok (.bipush 8, 2) := dk_16 8 (dk_at dksX2_nextToken_5 4 rfl rfl)
theorem dX2_nextToken_122 : decode cX2_nextToken 122 = .ok (.if_icmp .le 7, 3) := dk_164 0 7 (dk_at dksX2_nextToken_5 6 rfl rfl)
theorem dX2_nextToken_125 : decode cX2_nextToken 125 = .ok (.iconst 0, 1) := dk_3 (dk_at dksX2_nextToken_5 9 rfl rfl)
theorem dX2_nextToken_126 : decode cX2_nextToken 126 = .ok (.goto 4, 3) := dk_167 0 4 (dk_at dksX2_nextToken_5 10 rfl rfl)
theorem dX2_nextToken_129 : decode cX2_nextToken 129 = .ok (.iconst 2, 1) := dk_5 (dk_at dksX2_nextToken_5 13 rfl rfl)
theorem dX2_nextToken_130 : decode cX2_nextToken 130 = .ok (.putfield 93, 3) := dk_181 0 93 (dk_at dksX2_nextToken_5 14 rfl rfl)
theorem dX2_nextToken_133 : decode cX2_nextToken 133 = .ok (.goto 159, 3) := dk_167 0 159 (dk_at dksX2_nextToken_5 17 rfl rfl)
theorem dX2_nextToken_136 : decode cX2_nextToken 136 = .ok (.aload_n 0, 1) := dk_42 (dk_at dksX2_nextToken_5 20 rfl rfl)
theorem dX2_nextToken_137 : decode cX2_nextToken 137 = .ok (.aload_n 0, 1) := dk_42 (dk_at dksX2_nextToken_5 21 rfl rfl)
theorem dX2_nextToken_138 : decode cX2_nextToken 138 = .ok (.getfield 86, 3) := dk_180 0 86 (dk_at dksX2_nextToken_6 0 rfl rfl)
theorem dX2_nextToken_141 : decode cX2_nextToken 141 = .ok (.invokevirtual 89, 3) := dk_182 0 89 (dk_at dksX2_nextToken_6 3 rfl rfl)
theorem dX2_nextToken_144 : decode cX2_nextToken 144 = .ok (.bipush 48, 2) := dk_16 48 (dk_at dksX2_nextToken_6 6 rfl rfl)
theorem dX2_nextToken_146 : decode cX2_nextToken 146 = .ok (.bipush 57, 2) := dk_16 57 (dk_at dksX2_nextToken_6 8 rfl rfl)
theorem dX2_nextToken_148 : decode cX2_nextToken 148 = .ok (.invokestatic 96, 3) := dk_184 0 96 (dk_at dksX2_nextToken_6 10 rfl rfl)
theorem dX2_nextToken_151 : decode cX2_nextToken 151 = .ok (.ifCond .eq 100, 3) := dk_153 0 100 (dk_at dksX2_nextToken_6 13 rfl rfl)
theorem dX2_nextToken_154 : decode cX2_nextToken 154 = .ok (.aload_n 0, 1) := dk_42 (dk_at dksX2_nextToken_6 16 rfl rfl)
theorem dX2_nextToken_155 : decode cX2_nextToken 155 = .ok (.iconst 0, 1) := dk_3 (dk_at dksX2_nextToken_6 17 rfl rfl)
theorem dX2_nextToken_156 : decode cX2_nextToken 156 = .ok (.putfield 100, 3) := dk_181 0 100 (dk_at dksX2_nextToken_6 18 rfl rfl)
theorem dX2_nextToken_159 : decode cX2_nextToken 159 = .ok (.aload_n 0, 1) := dk_42 (dk_at dksX2_nextToken_6 21 rfl rfl)
theorem dX2_nextToken_160 : decode cX2_nextToken 160 = .ok (.aload_n 0, 1) := dk_42 (dk_at dksX2_nextToken_6 22 rfl rfl)
theorem dX2_nextToken_161 : decode cX2_nextToken 161 = .ok (.getfield 86, 3) := dk_180 0 86 (dk_at dksX2_nextToken_7 0 rfl rfl)
theorem dX2_nextToken_164 : decode cX2_nextToken 164 = .ok (.invokevirtual 89, 3) := dk_182 0 89 (dk_at dksX2_nextToken_7 3 rfl rfl)
theorem dX2_nextToken_167 : decode cX2_nextToken 167 = .ok (.bipush 48, 2) := dk_16 48 (dk_at dksX2_nextToken_7 6 rfl rfl)
theorem dX2_nextToken_169 : decode cX2_nextToken 169 = .ok (.bipush 57, 2) := dk_16 57 (dk_at dksX2_nextToken_7 8 rfl rfl)
theorem dX2_nextToken_171 : decode cX2_nextToken 171 = .ok (.invokestatic 96, 3) := dk_184 0 96 (dk_at dksX2_nextToken_7 10 rfl rfl)
theorem dX2_nextToken_174 : decode cX2_nextToken 174 = .ok (.ifCond .eq 52, 3) := dk_153 0 52 (dk_at dksX2_nextToken_7 13 rfl rfl)
theorem dX2_nextToken_177 : decode cX2_nextToken 177 = .ok (.aload_n 0, 1) := dk_42 (dk_at dksX2_nextToken_7 16 rfl rfl)
theorem dX2_nextToken_178 : decode cX2_nextToken 178 = .ok (.getfield 86, 3) := dk_180 0 86 (dk_at dksX2_nextToken_7 17 rfl rfl)
theorem dX2_nextToken_181 : decode cX2_nextToken 181 = .ok (.aload_n 0, 1) := dk_42 (dk_at dksX2_nextToken_7 20 rfl rfl)
theorem dX2_nextToken_182 : decode cX2_nextToken 182 = .ok (.getfield 83, 3) := dk_180 0 83 (dk_at dksX2_nextToken_7 21 rfl rfl)
theorem dX2_nextToken_185 : decode cX2_nextToken 185 = .ok (.isub, 1) := dk_100 (dk_at dksX2_nextToken_8 0 rfl rfl)
theorem dX2_nextToken_186 : decode cX2_nextToken 186 = .ok (.iconst 4, 1) := dk_7 (dk_at dksX2_nextToken_8 1 rfl rfl)
theorem dX2_nextToken_187 : decode cX2_nextToken 187 = .ok (.if_icmp .ge 26, 3) := dk_162 0 26 (dk_at dksX2_nextToken_8 2 rfl rfl)
theorem dX2_nextToken_190 : decode cX2_nextToken 190 = .ok (.aload_n 0, 1) := dk_42 (dk_at dksX2_nextToken_8 5 rfl rfl)
theorem dX2_nextToken_191 : decode cX2_nextToken 191 = .ok (.bipush 10, 2) := dk_16 10 (dk_at dksX2_nextToken_8 6 rfl rfl)
theorem dX2_nextToken_193 : decode cX2_nextToken 193 = .ok (.aload_n 0, 1) := dk_42 (dk_at dksX2_nextToken_8 8 rfl rfl)
theorem dX2_nextToken_194 : decode cX2_nextToken 194 = .ok (.getfield 100, 3) := dk_180 0 100 (dk_at dksX2_nextToken_8 9 rfl rfl)
theorem dX2_nextToken_197 : decode cX2_nextToken 197 = .ok (.imul, 1) := dk_104 (dk_at dksX2_nextToken_8 12 rfl rfl)
theorem dX2_nextToken_198 : decode cX2_nextToken 198 = .ok (.aload_n 0, 1) := dk_42 (dk_at dksX2_nextToken_8 13 rfl rfl)
theorem dX2_nextToken_199 : decode cX2_nextToken 199 = .ok (.aload_n 0, 1) := dk_42 (dk_at dksX2_nextToken_8 14 rfl rfl)
theorem dX2_nextToken_200 : decode cX2_nextToken 200 = .ok (.getfield 86, 3) := dk_180 0 86 (dk_at dksX2_nextToken_8 15 rfl rfl)
theorem dX2_nextToken_203 : decode cX2_nextToken 203 = .ok (.invokevirtual 89, 3) := dk_182 0 89 (dk_at dksX2_nextToken_8 18 rfl rfl)
theorem dX2_nextToken_206 : decode cX2_nextToken 206 = .ok (.iadd, 1) := dk_96 (dk_at dksX2_nextToken_8 21 rfl rfl)
theorem dX2_nextToken_207 : decode cX2_nextToken 207 = .ok (.bipush 48, 2) := dk_16 48 (dk_at dksX2_nextToken_8 22 rfl rfl)
theorem dX2_nextToken_209 : decode cX2_nextToken 209 = .ok (.isub, 1) := dk_100 (dk_at dksX2_nextToken_9 0 rfl rfl)
theorem dX2_nextToken_210 : decode cX2_nextToken 210 = .ok (.putfield 100, 3) := dk_181 0 100 (dk_at dksX2_nextToken_9 1 rfl rfl)
theorem dX2_nextToken_213 : decode cX2_nextToken 213 = .ok (.aload_n 0, 1) := dk_42 (dk_at dksX2_nextToken_9 4 rfl rfl)
theorem dX2_nextToken_214 : decode cX2_nextToken 214 = .ok (.dup, 1) := dk_89 (dk_at dksX2_nextToken_9 5 rfl rfl)
theorem dX2_nextToken_215 : decode cX2_nextToken 215 = .ok (.getfield 86, 3) := dk_180 0 86 (dk_at dksX2_nextToken_9 6 rfl rfl)
theorem dX2_nextToken_218 : decode cX2_nextToken 218 = .ok (.iconst 1, 1) := dk_4 (dk_at dksX2_nextToken_9 9 rfl rfl)
theorem dX2_nextToken_219 : decode cX2_nextToken 219 = .ok (.iadd, 1) := dk_96 (dk_at dksX2_nextToken_9 10 rfl rfl)
theorem dX2_nextToken_220 : decode cX2_nextToken 220 = .ok (.putfield 86, 3) := dk_181 0 86 (dk_at dksX2_nextToken_9 11 rfl rfl)
theorem dX2_nextToken_223 : decode cX2_nextToken 223 = .ok (.goto (-64), 3) := dk_167 255 192 (dk_at dksX2_nextToken_9 14 rfl rfl)
theorem dX2_nextToken_226 : decode cX2_nextToken 226 = .ok (.aload_n 0, 1) := dk_42 (dk_at dksX2_nextToken_9 17 rfl rfl)
theorem dX2_nextToken_227 : decode cX2_nextToken 227 = .ok (.aload_n 0, 1) := dk_42 (dk_at dksX2_nextToken_9 18 rfl rfl)
theorem dX2_nextToken_228 : decode cX2_nextToken 228 = .ok (.getfield 86, 3) := dk_180 0 86 (dk_at dksX2_nextToken_9 19 rfl rfl)
theorem dX2_nextToken_231 : decode cX2_nextToken 231 = .ok (.aload_n 0, 1) := dk_42 (dk_at dksX2_nextToken_9 22 rfl rfl)
theorem dX2_nextToken_232 : decode cX2_nextToken 232 = .ok (.getfield 83, 3) := dk_180 0 83 (dk_at dksX2_nextToken_10 0 rfl rfl)
theorem dX2_nextToken_235 : decode cX2_nextToken 235 = .ok (.isub, 1) := dk_100 (dk_at dksX2_nextToken_10 3 rfl rfl)
theorem dX2_nextToken_236 : decode cX2_nextToken 236 = .ok (.iconst 4, 1) := dk_7 (dk_at dksX2_nextToken_10 4 rfl rfl)
theorem dX2_nextToken_237 : decode cX2_nextToken 237 = .ok (.if_icmp .le 7, 3) := dk_164 0 7 (dk_at dksX2_nextToken_10 5 rfl rfl)
theorem dX2_nextToken_240 : decode cX2_nextToken 240 = .ok (.iconst 0, 1) := dk_3 (dk_at dksX2_nextToken_10 8 rfl rfl)
theorem dX2_nextToken_241 : decode cX2_nextToken 241 = .ok (.goto 4, 3) := dk_167 0 4 (dk_at dksX2_nextToken_10 9 rfl rfl)
theorem dX2_nextToken_244 : decode cX2_nextToken 244 = .ok (.iconst 3, 1) := dk_6 (dk_at dksX2_nextToken_10 12 rfl rfl)
theorem dX2_nextToken_245 : decode cX2_nextToken 245 = .ok (.putfield 93, 3) := dk_181 0 93 (dk_at dksX2_nextToken_10 13 rfl rfl)
theorem dX2_nextToken_248 : decode cX2_nextToken 248 = .ok (.goto 44, 3) := dk_167 0 44 (dk_at dksX2_nextToken_10 16 rfl rfl)
theorem dX2_nextToken_251 : decode cX2_nextToken 251 = .ok (.aload_n 0, 1) := dk_42 (dk_at dksX2_nextToken_10 19 rfl rfl)
theorem dX2_nextToken_252 : decode cX2_nextToken 252 = .ok (.aload_n 0, 1) := dk_42 (dk_at dksX2_nextToken_10 20 rfl rfl)
theorem dX2_nextToken_253 : decode cX2_nextToken 253 = .ok (.aload_n 0, 1) := dk_42 (dk_at dksX2_nextToken_10 21 rfl rfl)
theorem dX2_nextToken_254 : decode cX2_nextToken 254 = .ok (.getfield 86, 3) := dk_180 0 86 (dk_at dksX2_nextToken_11 0 rfl rfl)
theorem dX2_nextToken_257 : decode cX2_nextToken 257 = .ok (.invokevirtual 89, 3) := dk_182 0 89 (dk_at dksX2_nextToken_11 3 rfl rfl)
theorem dX2_nextToken_260 : decode cX2_nextToken 260 = .ok (.putfield 100, 3) := dk_181 0 100 (dk_at dksX2_nextToken_11 6 rfl rfl)
theorem dX2_nextToken_263 : decode cX2_nextToken 263 = .ok (.aload_n 0, 1) := dk_42 (dk_at dksX2_nextToken_11 9 rfl rfl)
theorem dX2_nextToken_264 : decode cX2_nextToken 264 = .ok (.aload_n 0, 1) := dk_42 (dk_at dksX2_nextToken_11 10 rfl rfl)
theorem dX2_nextToken_265 : decode cX2_nextToken 265 = .ok (.getfield 100, 3) := dk_180 0 100 (dk_at dksX2_nextToken_11 11 rfl rfl)
theorem dX2_nextToken_268 : decode cX2_nextToken 268 = .ok (.invokestatic 103, 3) := dk_184 0 103 (dk_at dksX2_nextToken_11 14 rfl rfl)
theorem dX2_nextToken_271 : decode cX2_nextToken 271 = .ok (.ifCond .eq 7, 3) := dk_153 0 7 (dk_at dksX2_nextToken_11 17 rfl rfl)
theorem dX2_nextToken_274 : decode cX2_nextToken 274 = .ok (.iconst 4, 1) := dk_7 (dk_at dksX2_nextToken_11 20 rfl rfl)
theorem dX2_nextToken_275 : decode cX2_nextToken 275 = .ok (.goto 4, 3) := dk_167 0 4 (dk_at dksX2_nextToken_11 21 rfl rfl)
theorem dX2_nextToken_278 : decode cX2_nextToken 278 = .ok (.iconst 0, 1) := dk_3 (dk_at dksX2_nextToken_12 0 rfl rfl)
theorem dX2_nextToken_279 : decode cX2_nextToken 279 = .ok (.putfield 93, 3) := dk_181 0 93 (dk_at dksX2_nextToken_12 1 rfl rfl)
theorem dX2_nextToken_282 : decode cX2_nextToken 282 = .ok (.aload_n 0, 1) := dk_42 (dk_at dksX2_nextToken_12 4 rfl rfl)
theorem dX2_nextToken_283 : decode cX2_nextToken 283 = .ok (.dup, 1) := dk_89 (dk_at dksX2_nextToken_12 5 rfl rfl)
theorem dX2_nextToken_284 : decode cX2_nextToken 284 = .ok (.getfield 86, 3) := dk_180 0 86 (dk_at dksX2_nextToken_12 6 rfl rfl)
theorem dX2_nextToken_287 : decode cX2_nextToken 287 = .ok (.iconst 1, 1) := dk_4 (dk_at dksX2_nextToken_12 9 rfl rfl)
theorem dX2_nextToken_288 : decode cX2_nextToken 288 = .ok (.iadd, 1) := dk_96 (dk_at dksX2_nextToken_12 10 rfl rfl)
theorem dX2_nextToken_289 : decode cX2_nextToken 289 = .ok (.putfield 86, 3) := dk_181 0 86 (dk_at dksX2_nextToken_12 11 rfl rfl)
theorem dX2_nextToken_292 : decode cX2_nextToken 292 = .ok (.return_, 1) := dk_177 (dk_at dksX2_nextToken_12 14 rfl rfl)
abbrev cX2_byteAt : ByteArray := prog_15_method_10_code
def yX2_byteAt : MethodName := ⟨RX2, "byteAt", "(I)I"⟩
def dkwX2_byteAt_0 : List UInt8 := [27, 42, 180, 0, 80, 162, 0, 12, 42, 180, 0, 9, 27, 46, 167, 0, 4, 2, 172]
abbrev dktX2_byteAt_0 : List UInt8 := dkwX2_byteAt_0 ++ []
theorem dksX2_byteAt_0 : cX2_byteAt.data.toList.drop 0 = dktX2_byteAt_0 := by decide +kernel
theorem dX2_byteAt_0 : decode cX2_byteAt 0 = .ok (.iload_n 1, 1) := dk_27 (dk_at dksX2_byteAt_0 0 rfl rfl)
theorem dX2_byteAt_1 : decode cX2_byteAt 1 = .ok (.aload_n 0, 1) := dk_42 (dk_at dksX2_byteAt_0 1 rfl rfl)
theorem dX2_byteAt_2 : decode cX2_byteAt 2 = .ok (.getfield 80, 3) := dk_180 0 80 (dk_at dksX2_byteAt_0 2 rfl rfl)
theorem dX2_byteAt_5 : decode cX2_byteAt 5 = .ok (.if_icmp .ge 12, 3) := dk_162 0 12 (dk_at dksX2_byteAt_0 5 rfl rfl)
theorem dX2_byteAt_8 : decode cX2_byteAt 8 = .ok (.aload_n 0, 1) := dk_42 (dk_at dksX2_byteAt_0 8 rfl rfl)
theorem dX2_byteAt_9 : decode cX2_byteAt 9 = .ok (.getfield 9, 3) := dk_180 0 9 (dk_at dksX2_byteAt_0 9 rfl rfl)
theorem dX2_byteAt_12 : decode cX2_byteAt 12 = .ok (.iload_n 1, 1) := dk_27 (dk_at dksX2_byteAt_0 12 rfl rfl)
theorem dX2_byteAt_13 : decode cX2_byteAt 13 = .ok (.iaload, 1) := dk_46 (dk_at dksX2_byteAt_0 13 rfl rfl)
theorem dX2_byteAt_14 : decode cX2_byteAt 14 = .ok (.goto 4, 3) := dk_167 0 4 (dk_at dksX2_byteAt_0 14 rfl rfl)
theorem dX2_byteAt_17 : decode cX2_byteAt 17 = .ok (.iconst (-1), 1) := dk_2 (dk_at dksX2_byteAt_0 17 rfl rfl)
theorem dX2_byteAt_18 : decode cX2_byteAt 18 = .ok (.ireturn, 1) := dk_172 (dk_at dksX2_byteAt_0 18 rfl rfl)
abbrev cX2_isSign : ByteArray := prog_15_method_12_code
def yX2_isSign : MethodName := ⟨RX2, "isSign", "(I)Z"⟩
def dkwX2_isSign_1 : List UInt8 := [26, 16, 45, 159, 0, 15, 26, 16, 42, 159, 0, 9, 26, 16, 47, 160, 0, 7, 4, 167, 0, 4, 3, 172]
abbrev dktX2_isSign_1 : List UInt8 := dkwX2_isSign_1 ++ []
def dkwX2_isSign_0 : List UInt8 := [26, 16, 59, 159, 0, 39, 26, 16, 40, 159, 0, 33, 26, 16, 41, 159, 0, 27, 26, 16, 43, 159, 0, 21]
abbrev dktX2_isSign_0 : List UInt8 := dkwX2_isSign_0 ++ dktX2_isSign_1
theorem dksX2_isSign_0 : cX2_isSign.data.toList.drop 0 = dktX2_isSign_0 := by decide +kernel
theorem dksX2_isSign_1 : cX2_isSign.data.toList.drop 24 = dktX2_isSign_1 := dk_seg dksX2_isSign_0 24 rfl rfl
theorem dX2_isSign_0 : decode cX2_isSign 0 = .ok (.iload_n 0, 1) := dk_26 (dk_at dksX2_isSign_0 0 rfl rfl)
theorem dX2_isSign_1 : decode cX2_isSign 1 = .ok (.bipush 59, 2) := dk_16 59 (dk_at dksX2_isSign_0 1 rfl rfl)
theorem dX2_isSign_3 : decode cX2_isSign 3 = .ok (.if_icmp .eq 39, 3) := dk_159 0 39 (dk_at dksX2_isSign_0 3 rfl rfl)
theorem dX2_isSign_6 : decode cX2_isSign 6 = .ok (.iload_n 0, 1) := dk_26 (dk_at dksX2_isSign_0 6 rfl rfl)
theorem dX2_isSign_7 : decode cX2_isSign 7 = .ok (.bipush 40, 2) := dk_16 40 (dk_at dksX2_isSign_0 7 rfl rfl)
theorem dX2_isSign_9 : decode cX2_isSign 9 = .ok (.if_icmp .eq 33, 3) := dk_159 0 33 (dk_at dksX2_isSign_0 9 rfl rfl)
theorem dX2_isSign_12 : decode cX2_isSign 12 = .ok (.iload_n 0, 1) := dk_26 (dk_at dksX2_isSign_0 12 rfl rfl)
theorem dX2_isSign_13 : decode cX2_isSign 13 = .ok (.bipush 41, 2) := dk_16 41 (dk_at dksX2_isSign_0 13 rfl rfl)
theorem dX2_isSign_15 : decode cX2_isSign 15 = .ok (.if_icmp .eq 27, 3) := dk_159 0 27 (dk_at dksX2_isSign_0 15 rfl rfl)
theorem dX2_isSign_18 : decode cX2_isSign 18 = .ok (.iload_n 0, 1) := dk_26 (dk_at dksX2_isSign_0 18 rfl rfl)
theorem dX2_isSign_19 : decode cX2_isSign 19 = .ok (.bipush 43, 2) := dk_16 43 (dk_at dksX2_isSign_0 19 rfl rfl)
theorem dX2_isSign_21 : decode cX2_isSign 21 = .ok (.if_icmp .eq 21, 3) := dk_159 0 21 (dk_at dksX2_isSign_0 21 rfl rfl)
theorem dX2_isSign_24 : decode cX2_isSign 24 = .ok (.iload_n 0, 1) := dk_26 (dk_at dksX2_isSign_1 0 rfl rfl)
theorem dX2_isSign_25 : decode cX2_isSign 25 = .ok (.bipush 45, 2) := dk_16 45 (dk_at dksX2_isSign_1 1 rfl rfl)
theorem dX2_isSign_27 : decode cX2_isSign 27 = .ok (.if_icmp .eq 15, 3) := dk_159 0 15 (dk_at dksX2_isSign_1 3 rfl rfl)
theorem dX2_isSign_30 : decode cX2_isSign 30 = .ok (.iload_n 0, 1) := dk_26 (dk_at dksX2_isSign_1 6 rfl rfl)
theorem dX2_isSign_31 : decode cX2_isSign 31 = .ok (.bipush 42, 2) := dk_16 42 (dk_at dksX2_isSign_1 7 rfl rfl)
theorem dX2_isSign_33 : decode cX2_isSign 33 = .ok (.if_icmp .eq 9, 3) := dk_159 0 9 (dk_at dksX2_isSign_1 9 rfl rfl)
theorem dX2_isSign_36 : decode cX2_isSign 36 = .ok (.iload_n 0, 1) := dk_26 (dk_at dksX2_isSign_1 12 rfl rfl)
theorem dX2_isSign_37 : decode cX2_isSign 37 = .ok (.bipush 47, 2) := dk_16 47 (dk_at dksX2_isSign_1 13 rfl rfl)
theorem dX2_isSign_39 : decode cX2_isSign 39 = .ok (.if_icmp .ne 7, 3) := dk_160 0 7 (dk_at dksX2_isSign_1 15 rfl rfl)
theorem dX2_isSign_42 : decode cX2_isSign 42 = .ok (.iconst 1, 1) := dk_4 (dk_at dksX2_isSign_1 18 rfl rfl)
theorem dX2_isSign_43 : decode cX2_isSign 43 = .ok (.goto 4, 3) := dk_167 0 4 (dk_at dksX2_isSign_1 19 rfl rfl)
theorem dX2_isSign_46 : decode cX2_isSign 46 = .ok (.iconst 0, 1) := dk_3 (dk_at dksX2_isSign_1 22 rfl rfl)
theorem dX2_isSign_47 : decode cX2_isSign 47 = .ok (.ireturn, 1) := dk_172 (dk_at dksX2_isSign_1 23 rfl rfl)
abbrev cX2_readFirst : ByteArray := prog_15_method_22_code
def yX2_readFirst : MethodName := ⟨RX2, "readFirst", "()V"⟩
def dkwX2_readFirst_2 : List UInt8 := [17, 0, 200, 182, 0, 148, 79, 42, 180, 0, 20, 6, 42, 18, 156, 4, 17, 39, 15, 182, 0, 148, 79, 177]
abbrev dktX2_readFirst_2 : List UInt8 := dkwX2_readFirst_2 ++ []
def dkwX2_readFirst_1 : List UInt8 := [180, 0, 20, 4, 42, 18, 152, 4, 16, 99, 182, 0, 148, 79, 42, 180, 0, 20, 5, 42, 18, 154, 16, 32]
abbrev dktX2_readFirst_1 : List UInt8 := dkwX2_readFirst_1 ++ dktX2_readFirst_2
def dkwX2_readFirst_0 : List UInt8 := [42, 18, 144, 182, 0, 134, 42, 180, 0, 20, 3, 42, 18, 146, 16, 100, 17, 19, 136, 182, 0, 148, 79, 42]
abbrev dktX2_readFirst_0 : List UInt8 := dkwX2_readFirst_0 ++ dktX2_readFirst_1
theorem dksX2_readFirst_0 : cX2_readFirst.data.toList.drop 0 = dktX2_readFirst_0 := by decide +kernel
theorem dksX2_readFirst_1 : cX2_readFirst.data.toList.drop 24 = dktX2_readFirst_1 := dk_seg dksX2_readFirst_0 24 rfl rfl
theorem dksX2_readFirst_2 : cX2_readFirst.data.toList.drop 48 = dktX2_readFirst_2 := dk_seg dksX2_readFirst_1 24 rfl rfl
theorem dX2_readFirst_0 : decode cX2_readFirst 0 = .ok (.aload_n 0, 1) := dk_42 (dk_at dksX2_readFirst_0 0 rfl rfl)
theorem dX2_readFirst_1 : decode cX2_readFirst 1 = .ok (.ldc 144, 2) := dk_18 144 (dk_at dksX2_readFirst_0 1 rfl rfl)
theorem dX2_readFirst_3 : decode cX2_readFirst 3 = .ok (.invokevirtual 134, 3) := dk_182 0 134 (dk_at dksX2_readFirst_0 3 rfl rfl)
theorem dX2_readFirst_6 : decode cX2_readFirst 6 = .ok (.aload_n 0, 1) := dk_42 (dk_at dksX2_readFirst_0 6 rfl rfl)
theorem dX2_readFirst_7 : decode cX2_readFirst 7 = .ok (.getfield 20, 3) := dk_180 0 20 (dk_at dksX2_readFirst_0 7 rfl rfl)
theorem dX2_readFirst_10 : decode cX2_readFirst 10 = .ok (.iconst 0, 1) := dk_3 (dk_at dksX2_readFirst_0 10 rfl rfl)
theorem dX2_readFirst_11 : decode cX2_readFirst 11 = .ok (.aload_n 0, 1) := dk_42 (dk_at dksX2_readFirst_0 11 rfl rfl)
theorem dX2_readFirst_12 : decode cX2_readFirst 12 = .ok (.ldc 146, 2) := dk_18 146 (dk_at dksX2_readFirst_0 12 rfl rfl)
theorem dX2_readFirst_14 : decode cX2_readFirst 14 = .ok (.bipush 100, 2) := dk_16 100 (dk_at dksX2_readFirst_0 14 rfl rfl)
theorem dX2_readFirst_16 : decode cX2_readFirst 16 = .ok (.sipush 5000, 3) := dk_17 19 136 (dk_at dksX2_readFirst_0 16 rfl rfl)
theorem dX2_readFirst_19 : decode cX2_readFirst 19 = .ok (.invokevirtual 148, 3) := dk_182 0 148 (dk_at dksX2_readFirst_0 19 rfl rfl)
theorem dX2_readFirst_22 : decode cX2_readFirst 22 = .ok (.iastore, 1) := dk_79 (dk_at dksX2_readFirst_0 22 rfl rfl)
theorem dX2_readFirst_23 : decode cX2_readFirst 23 = .ok (.aload_n 0, 1) := dk_42 (dk_at dksX2_readFirst_0 23 rfl rfl)
theorem dX2_readFirst_24 : decode cX2_readFirst 24 = .ok (.getfield 20, 3) := dk_180 0 20 (dk_at dksX2_readFirst_1 0 rfl rfl)
theorem dX2_readFirst_27 : decode cX2_readFirst 27 = .ok (.iconst 1, 1) := dk_4 (dk_at dksX2_readFirst_1 3 rfl rfl)
theorem dX2_readFirst_28 : decode cX2_readFirst 28 = .ok (.aload_n 0, 1) := dk_42 (dk_at dksX2_readFirst_1 4 rfl rfl)
theorem dX2_readFirst_29 : decode cX2_readFirst 29 = .ok (.ldc 152, 2) := dk_18 152 (dk_at dksX2_readFirst_1 5 rfl rfl)
theorem dX2_readFirst_31 : decode cX2_readFirst 31 = .ok (.iconst 1, 1) := dk_4 (dk_at dksX2_readFirst_1 7 rfl rfl)
theorem dX2_readFirst_32 : decode cX2_readFirst 32 = .ok (.bipush 99, 2) := dk_16 99 (dk_at dksX2_readFirst_1 8 rfl rfl)
theorem dX2_readFirst_34 : decode cX2_readFirst 34 = .ok (.invokevirtual 148, 3) := dk_182 0 148 (dk_at dksX2_readFirst_1 10 rfl rfl)
theorem dX2_readFirst_37 : decode cX2_readFirst 37 = .ok (.iastore, 1) := dk_79 (dk_at dksX2_readFirst_1 13 rfl rfl)
theorem dX2_readFirst_38 : decode cX2_readFirst 38 = .ok (.aload_n 0, 1) := dk_42 (dk_at dksX2_readFirst_1 14 rfl rfl)
theorem dX2_readFirst_39 : decode cX2_readFirst 39 = .ok (.getfield 20, 3) := dk_180 0 20 (dk_at dksX2_readFirst_1 15 rfl rfl)
theorem dX2_readFirst_42 : decode cX2_readFirst 42 = .ok (.iconst 2, 1) := dk_5 (dk_at dksX2_readFirst_1 18 rfl rfl)
theorem dX2_readFirst_43 : decode cX2_readFirst 43 = .ok (.aload_n 0, 1) := dk_42 (dk_at dksX2_readFirst_1 19 rfl rfl)
theorem dX2_readFirst_44 : decode cX2_readFirst 44 = .ok (.ldc 154, 2) := dk_18 154 (dk_at dksX2_readFirst_1 20 rfl rfl)
theorem dX2_readFirst_46 : decode cX2_readFirst 46 = .ok (.bipush 32, 2) := dk_16 32 (dk_at dksX2_readFirst_1 22 rfl rfl)
theorem dX2_readFirst_48 : decode cX2_readFirst 48 = .ok (.sipush 200, 3) := dk_17 0 200 (dk_at dksX2_readFirst_2 0 rfl rfl)
theorem dX2_readFirst_51 : decode cX2_readFirst 51 = .ok (.invokevirtual 148, 3) := dk_182 0 148 (dk_at dksX2_readFirst_2 3 rfl rfl)
theorem dX2_readFirst_54 : decode cX2_readFirst 54 = .ok (.iastore, 1) := dk_79 (dk_at dksX2_readFirst_2 6 rfl rfl)
theorem dX2_readFirst_55 : decode cX2_readFirst 55 = .ok (.aload_n 0, 1) := dk_42 (dk_at dksX2_readFirst_2 7 rfl rfl)
theorem dX2_readFirst_56 : decode cX2_readFirst 56 = .ok (.getfield 20, 3) := dk_180 0 20 (dk_at dksX2_readFirst_2 8 rfl rfl)
theorem dX2_readFirst_59 : decode cX2_readFirst 59 = .ok (.iconst 3, 1) := dk_6 (dk_at dksX2_readFirst_2 11 rfl rfl)
theorem dX2_readFirst_60 : decode cX2_readFirst 60 = .ok (.aload_n 0, 1) := dk_42 (dk_at dksX2_readFirst_2 12 rfl rfl)
theorem dX2_readFirst_61 : decode cX2_readFirst 61 = .ok (.ldc 156, 2) := dk_18 156 (dk_at dksX2_readFirst_2 13 rfl rfl)
theorem dX2_readFirst_63 : decode cX2_readFirst 63 = .ok (.iconst 1, 1) := dk_4 (dk_at dksX2_readFirst_2 15 rfl rfl)
theorem dX2_readFirst_64 : decode cX2_readFirst 64 = .ok (.sipush 9999, 3) := dk_17 39 15 (dk_at dksX2_readFirst_2 16 rfl rfl)
theorem dX2_readFirst_67 : decode cX2_readFirst 67 = .ok (.invokevirtual 148, 3) := dk_182 0 148 (dk_at dksX2_readFirst_2 19 rfl rfl)
theorem dX2_readFirst_70 : decode cX2_readFirst 70 = .ok (.iastore, 1) := dk_79 (dk_at dksX2_readFirst_2 22 rfl rfl)
theorem dX2_readFirst_71 : decode cX2_readFirst 71 = .ok (.return_, 1) := dk_177 (dk_at dksX2_readFirst_2 23 rfl rfl)
abbrev cX2_keyword : ByteArray := prog_15_method_17_code
def yX2_keyword : MethodName := ⟨RX2, "keyword", "(Ljava/lang/String;)V"⟩
def dkwX2_keyword_0 : List UInt8 := [42, 43, 182, 0, 124, 154, 0, 8, 42, 4, 182, 0, 127, 177]
abbrev dktX2_keyword_0 : List UInt8 := dkwX2_keyword_0 ++ []
theorem dksX2_keyword_0 : cX2_keyword.data.toList.drop 0 = dktX2_keyword_0 := by decide +kernel
theorem dX2_keyword_0 : decode cX2_keyword 0 = .ok (.aload_n 0, 1) := dk_42 (dk_at dksX2_keyword_0 0 rfl rfl)
theorem dX2_keyword_1 : decode cX2_keyword 1 = .ok (.aload_n 1, 1) := dk_43 (dk_at dksX2_keyword_0 1 rfl rfl)
theorem dX2_keyword_2 : decode cX2_keyword 2 = .ok (.invokevirtual 124, 3) := dk_182 0 124 (dk_at dksX2_keyword_0 2 rfl rfl)
theorem dX2_keyword_5 : decode cX2_keyword 5 = .ok (.ifCond .ne 8, 3) := dk_154 0 8 (dk_at dksX2_keyword_0 5 rfl rfl)
theorem dX2_keyword_8 : decode cX2_keyword 8 = .ok (.aload_n 0, 1) := dk_42 (dk_at dksX2_keyword_0 8 rfl rfl)
theorem dX2_keyword_9 : decode cX2_keyword 9 = .ok (.iconst 1, 1) := dk_4 (dk_at dksX2_keyword_0 9 rfl rfl)
theorem dX2_keyword_10 : decode cX2_keyword 10 = .ok (.invokevirtual 127, 3) := dk_182 0 127 (dk_at dksX2_keyword_0 10 rfl rfl)
theorem dX2_keyword_13 : decode cX2_keyword 13 = .ok (.return_, 1) := dk_177 (dk_at dksX2_keyword_0 13 rfl rfl)
abbrev cX2_takes : ByteArray := prog_15_method_16_code
def yX2_takes : MethodName := ⟨RX2, "takes", "(Ljava/lang/String;)Z"⟩
def dkwX2_takes_0 : List UInt8 := [42, 43, 182, 0, 117, 61, 28, 153, 0, 7, 42, 182, 0, 121, 28, 172]
abbrev dktX2_takes_0 : List UInt8 := dkwX2_takes_0 ++ []
theorem dksX2_takes_0 : cX2_takes.data.toList.drop 0 = dktX2_takes_0 := by decide +kernel
theorem dX2_takes_0 : decode cX2_takes 0 = .ok (.aload_n 0, 1) := dk_42 (dk_at dksX2_takes_0 0 rfl rfl)
theorem dX2_takes_1 : decode cX2_takes 1 = .ok (.aload_n 1, 1) := dk_43 (dk_at dksX2_takes_0 1 rfl rfl)
theorem dX2_takes_2 : decode cX2_takes 2 = .ok (.invokevirtual 117, 3) := dk_182 0 117 (dk_at dksX2_takes_0 2 rfl rfl)
theorem dX2_takes_5 : decode cX2_takes 5 = .ok (.istore_n 2, 1) := dk_61 (dk_at dksX2_takes_0 5 rfl rfl)
theorem dX2_takes_6 : decode cX2_takes 6 = .ok (.iload_n 2, 1) := dk_28 (dk_at dksX2_takes_0 6 rfl rfl)
theorem dX2_takes_7 : decode cX2_takes 7 = .ok (.ifCond .eq 7, 3) := dk_153 0 7 (dk_at dksX2_takes_0 7 rfl rfl)
theorem dX2_takes_10 : decode cX2_takes 10 = .ok (.aload_n 0, 1) := dk_42 (dk_at dksX2_takes_0 10 rfl rfl)
theorem dX2_takes_11 : decode cX2_takes 11 = .ok (.invokevirtual 121, 3) := dk_182 0 121 (dk_at dksX2_takes_0 11 rfl rfl)
theorem dX2_takes_14 : decode cX2_takes 14 = .ok (.iload_n 2, 1) := dk_28 (dk_at dksX2_takes_0 14 rfl rfl)
theorem dX2_takes_15 : decode cX2_takes 15 = .ok (.ireturn, 1) := dk_172 (dk_at dksX2_takes_0 15 rfl rfl)
abbrev cX2_isWord : ByteArray := prog_15_method_15_code
def yX2_isWord : MethodName := ⟨RX2, "isWord", "(Ljava/lang/String;)Z"⟩
def dkwX2_isWord_2 : List UInt8 := [180, 0, 83, 28, 96, 46, 43, 28, 182, 0, 113, 159, 0, 5, 3, 172, 132, 2, 1, 167, 255, 224, 4, 172]
abbrev dktX2_isWord_2 : List UInt8 := dkwX2_isWord_2 ++ []
def dkwX2_isWord_1 : List UInt8 := [43, 182, 0, 107, 159, 0, 5, 3, 172, 3, 61, 28, 43, 182, 0, 107, 162, 0, 30, 42, 180, 0, 9, 42]
abbrev dktX2_isWord_1 : List UInt8 := dkwX2_isWord_1 ++ dktX2_isWord_2
def dkwX2_isWord_0 : List UInt8 := [42, 180, 0, 77, 157, 0, 27, 42, 180, 0, 93, 5, 160, 0, 19, 42, 180, 0, 86, 42, 180, 0, 83, 100]
abbrev dktX2_isWord_0 : List UInt8 := dkwX2_isWord_0 ++ dktX2_isWord_1
theorem dksX2_isWord_0 : cX2_isWord.data.toList.drop 0 = dktX2_isWord_0 := by decide +kernel
theorem dksX2_isWord_1 : cX2_isWord.data.toList.drop 24 = dktX2_isWord_1 := dk_seg dksX2_isWord_0 24 rfl rfl
theorem dksX2_isWord_2 : cX2_isWord.data.toList.drop 48 = dktX2_isWord_2 := dk_seg dksX2_isWord_1 24 rfl rfl
theorem dX2_isWord_0 : decode cX2_isWord 0 = .ok (.aload_n 0, 1) := dk_42 (dk_at dksX2_isWord_0 0 rfl rfl)
theorem dX2_isWord_1 : decode cX2_isWord 1 = .ok (.getfield 77, 3) := dk_180 0 77 (dk_at dksX2_isWord_0 1 rfl rfl)
theorem dX2_isWord_4 : decode cX2_isWord 4 = .ok (.ifCond .gt 27, 3) := dk_157 0 27 (dk_at dksX2_isWord_0 4 rfl rfl)
theorem dX2_isWord_7 : decode cX2_isWord 7 = .ok (.aload_n 0, 1) := dk_42 (dk_at dksX2_isWord_0 7 rfl rfl)
theorem dX2_isWord_8 : decode cX2_isWord 8 = .ok (.getfield 93, 3) := dk_180 0 93 (dk_at dksX2_isWord_0 8 rfl rfl)
theorem dX2_isWord_11 : decode cX2_isWord 11 = .ok (.iconst 2, 1) := dk_5 (dk_at dksX2_isWord_0 11 rfl rfl)
theorem dX2_isWord_12 : decode cX2_isWord 12 = .ok (.if_icmp .ne 19, 3) := dk_160 0 19 (dk_at dksX2_isWord_0 12 rfl rfl)
theorem dX2_isWord_15 : decode cX2_isWord 15 = .ok (.aload_n 0, 1) := dk_42 (dk_at dksX2_isWord_0 15 rfl rfl)
theorem dX2_isWord_16 : decode cX2_isWord 16 = .ok (.getfield 86, 3) := dk_180 0 86 (dk_at dksX2_isWord_0 16 rfl rfl)
theorem dX2_isWord_19 : decode cX2_isWord 19 = .ok (.aload_n 0, 1) := dk_42 (dk_at dksX2_isWord_0 19 rfl rfl)
theorem dX2_isWord_20 : decode cX2_isWord 20 = .ok (.getfield 83, 3) := dk_180 0 83 (dk_at dksX2_isWord_0 20 rfl rfl)
theorem dX2_isWord_23 : decode cX2_isWord 23 = .ok (.isub, 1) := dk_100 (dk_at dksX2_isWord_0 23 rfl rfl)
theorem dX2_isWord_24 : decode cX2_isWord 24 = .ok (.aload_n 1, 1) := dk_43 (dk_at dksX2_isWord_1 0 rfl rfl)
theorem dX2_isWord_25 : decode cX2_isWord 25 = .ok (.invokevirtual 107, 3) := dk_182 0 107 (dk_at dksX2_isWord_1 1 rfl rfl)
theorem dX2_isWord_28 : decode cX2_isWord 28 = .ok (.if_icmp .eq 5, 3) := dk_159 0 5 (dk_at dksX2_isWord_1 4 rfl rfl)
theorem dX2_isWord_31 : decode cX2_isWord 31 = .ok (.iconst 0, 1) := dk_3 (dk_at dksX2_isWord_1 7 rfl rfl)
theorem dX2_isWord_32 : decode cX2_isWord 32 = .ok (.ireturn, 1) := dk_172 (dk_at dksX2_isWord_1 8 rfl rfl)
theorem dX2_isWord_33 : decode cX2_isWord 33 = .ok (.iconst 0, 1) := dk_3 (dk_at dksX2_isWord_1 9 rfl rfl)
theorem dX2_isWord_34 : decode cX2_isWord 34 = .ok (.istore_n 2, 1) := dk_61 (dk_at dksX2_isWord_1 10 rfl rfl)
theorem dX2_isWord_35 : decode cX2_isWord 35 = .ok (.iload_n 2, 1) := dk_28 (dk_at dksX2_isWord_1 11 rfl rfl)
theorem dX2_isWord_36 : decode cX2_isWord 36 = .ok (.aload_n 1, 1) := dk_43 (dk_at dksX2_isWord_1 12 rfl rfl)
theorem dX2_isWord_37 : decode cX2_isWord 37 = .ok (.invokevirtual 107, 3) := dk_182 0 107 (dk_at dksX2_isWord_1 13 rfl rfl)
theorem dX2_isWord_40 : decode cX2_isWord 40 = .ok (.if_icmp .ge 30, 3) := dk_162 0 30 (dk_at dksX2_isWord_1 16 rfl rfl)
theorem dX2_isWord_43 : decode cX2_isWord 43 = .ok (.aload_n 0, 1) := dk_42 (dk_at dksX2_isWord_1 19 rfl rfl)
theorem dX2_isWord_44 : decode cX2_isWord 44 = .ok (.getfield 9, 3) := dk_180 0 9 (dk_at dksX2_isWord_1 20 rfl rfl)
theorem dX2_isWord_47 : decode cX2_isWord 47 = .ok (.aload_n 0, 1) := dk_42 (dk_at dksX2_isWord_1 23 rfl rfl)
theorem dX2_isWord_48 : decode cX2_isWord 48 = .ok (.getfield 83, 3) := dk_180 0 83 (dk_at dksX2_isWord_2 0 rfl rfl)
theorem dX2_isWord_51 : decode cX2_isWord 51 = .ok (.iload_n 2, 1) := dk_28 (dk_at dksX2_isWord_2 3 rfl rfl)
theorem dX2_isWord_52 : decode cX2_isWord 52 = .ok (.iadd, 1) := dk_96 (dk_at dksX2_isWord_2 4 rfl rfl)
theorem dX2_isWord_53 : decode cX2_isWord 53 = .ok (.iaload, 1) := dk_46 (dk_at dksX2_isWord_2 5 rfl rfl)
theorem dX2_isWord_54 : decode cX2_isWord 54 = .ok (.aload_n 1, 1) := dk_43 (dk_at dksX2_isWord_2 6 rfl rfl)
theorem dX2_isWord_55 : decode cX2_isWord 55 = .ok (.iload_n 2, 1) := dk_28 (dk_at dksX2_isWord_2 7 rfl rfl)
theorem dX2_isWord_56 : decode cX2_isWord 56 = .ok (.invokevirtual 113, 3) := dk_182 0 113 (dk_at dksX2_isWord_2 8 rfl rfl)
theorem dX2_isWord_59 : decode cX2_isWord 59 = .ok (.if_icmp .eq 5, 3) := dk_159 0 5 (dk_at dksX2_isWord_2 11 rfl rfl)
theorem dX2_isWord_62 : decode cX2_isWord 62 = .ok (.iconst 0, 1) := dk_3 (dk_at dksX2_isWord_2 14 rfl rfl)
theorem dX2_isWord_63 : decode cX2_isWord 63 = .ok (.ireturn, 1) := dk_172 (dk_at dksX2_isWord_2 15 rfl rfl)
theorem dX2_isWord_64 : decode cX2_isWord 64 = .ok (.iinc 2 1, 3) := dk_132 2 1 (dk_at dksX2_isWord_2 16 rfl rfl)
theorem dX2_isWord_67 : decode cX2_isWord 67 = .ok (.goto (-32), 3) := dk_167 255 224 (dk_at dksX2_isWord_2 19 rfl rfl)
theorem dX2_isWord_70 : decode cX2_isWord 70 = .ok (.iconst 1, 1) := dk_4 (dk_at dksX2_isWord_2 22 rfl rfl)
theorem dX2_isWord_71 : decode cX2_isWord 71 = .ok (.ireturn, 1) := dk_172 (dk_at dksX2_isWord_2 23 rfl rfl)
abbrev cX2_faults : ByteArray := prog_15_method_11_code
def yX2_faults : MethodName := ⟨RX2, "faults", "(I)V"⟩
def dkwX2_faults_0 : List UInt8 := [42, 180, 0, 77, 158, 0, 4, 177, 42, 27, 181, 0, 77, 42, 42, 180, 0, 83, 181, 0, 13, 177]
abbrev dktX2_faults_0 : List UInt8 := dkwX2_faults_0 ++ []
theorem dksX2_faults_0 : cX2_faults.data.toList.drop 0 = dktX2_faults_0 := by decide +kernel
theorem dX2_faults_0 : decode cX2_faults 0 = .ok (.aload_n 0, 1) := dk_42 (dk_at dksX2_faults_0 0 rfl rfl)
theorem dX2_faults_1 : decode cX2_faults 1 = .ok (.getfield 77, 3) := dk_180 0 77 (dk_at dksX2_faults_0 1 rfl rfl)
theorem dX2_faults_4 : decode cX2_faults 4 = .ok (.ifCond .le 4, 3) := dk_158 0 4 (dk_at dksX2_faults_0 4 rfl rfl)
theorem dX2_faults_7 : decode cX2_faults 7 = .ok (.return_, 1) := dk_177 (dk_at dksX2_faults_0 7 rfl rfl)
theorem dX2_faults_8 : decode cX2_faults 8 = .ok (.aload_n 0, 1) := dk_42 (dk_at dksX2_faults_0 8 rfl rfl)
theorem dX2_faults_9 : decode cX2_faults 9 = .ok (.iload_n 1, 1) := dk_27 (dk_at dksX2_faults_0 9 rfl rfl)
theorem dX2_faults_10 : decode cX2_faults 10 = .ok (.putfield 77, 3) := dk_181 0 77 (dk_at dksX2_faults_0 10 rfl rfl)
theorem dX2_faults_13 : decode cX2_faults 13 = .ok (.aload_n 0, 1) := dk_42 (dk_at dksX2_faults_0 13 rfl rfl)
theorem dX2_faults_14 : decode cX2_faults 14 = .ok (.aload_n 0, 1) := dk_42 (dk_at dksX2_faults_0 14 rfl rfl)
theorem dX2_faults_15 : decode cX2_faults 15 = .ok (.getfield 83, 3) := dk_180 0 83 (dk_at dksX2_faults_0 15 rfl rfl)
theorem dX2_faults_18 : decode cX2_faults 18 = .ok (.putfield 13, 3) := dk_181 0 13 (dk_at dksX2_faults_0 18 rfl rfl)
theorem dX2_faults_21 : decode cX2_faults 21 = .ok (.return_, 1) := dk_177 (dk_at dksX2_faults_0 21 rfl rfl)
abbrev cX2_gauge : ByteArray := prog_15_method_20_code
def yX2_gauge : MethodName := ⟨RX2, "gauge", "(Ljava/lang/String;II)I"⟩
def dkwX2_gauge_0 : List UInt8 := [42, 43, 182, 0, 134, 42, 28, 29, 182, 0, 138, 172]
abbrev dktX2_gauge_0 : List UInt8 := dkwX2_gauge_0 ++ []
theorem dksX2_gauge_0 : cX2_gauge.data.toList.drop 0 = dktX2_gauge_0 := by decide +kernel
theorem dX2_gauge_0 : decode cX2_gauge 0 = .ok (.aload_n 0, 1) := dk_42 (dk_at dksX2_gauge_0 0 rfl rfl)
theorem dX2_gauge_1 : decode cX2_gauge 1 = .ok (.aload_n 1, 1) := dk_43 (dk_at dksX2_gauge_0 1 rfl rfl)
theorem dX2_gauge_2 : decode cX2_gauge 2 = .ok (.invokevirtual 134, 3) := dk_182 0 134 (dk_at dksX2_gauge_0 2 rfl rfl)
theorem dX2_gauge_5 : decode cX2_gauge 5 = .ok (.aload_n 0, 1) := dk_42 (dk_at dksX2_gauge_0 5 rfl rfl)
theorem dX2_gauge_6 : decode cX2_gauge 6 = .ok (.iload_n 2, 1) := dk_28 (dk_at dksX2_gauge_0 6 rfl rfl)
theorem dX2_gauge_7 : decode cX2_gauge 7 = .ok (.iload_n 3, 1) := dk_29 (dk_at dksX2_gauge_0 7 rfl rfl)
theorem dX2_gauge_8 : decode cX2_gauge 8 = .ok (.invokevirtual 138, 3) := dk_182 0 138 (dk_at dksX2_gauge_0 8 rfl rfl)
theorem dX2_gauge_11 : decode cX2_gauge 11 = .ok (.ireturn, 1) := dk_172 (dk_at dksX2_gauge_0 11 rfl rfl)
abbrev cX2_number : ByteArray := prog_15_method_19_code
def yX2_number : MethodName := ⟨RX2, "number", "(II)I"⟩
def dkwX2_number_0 : List UInt8 := [42, 27, 28, 182, 0, 130, 62, 42, 182, 0, 121, 29, 172]
abbrev dktX2_number_0 : List UInt8 := dkwX2_number_0 ++ []
theorem dksX2_number_0 : cX2_number.data.toList.drop 0 = dktX2_number_0 := by decide +kernel
theorem dX2_number_0 : decode cX2_number 0 = .ok (.aload_n 0, 1) := dk_42 (dk_at dksX2_number_0 0 rfl rfl)
theorem dX2_number_1 : decode cX2_number 1 = .ok (.iload_n 1, 1) := dk_27 (dk_at dksX2_number_0 1 rfl rfl)
theorem dX2_number_2 : decode cX2_number 2 = .ok (.iload_n 2, 1) := dk_28 (dk_at dksX2_number_0 2 rfl rfl)
theorem dX2_number_3 : decode cX2_number 3 = .ok (.invokevirtual 130, 3) := dk_182 0 130 (dk_at dksX2_number_0 3 rfl rfl)
theorem dX2_number_6 : decode cX2_number 6 = .ok (.istore_n 3, 1) := dk_62 (dk_at dksX2_number_0 6 rfl rfl)
theorem dX2_number_7 : decode cX2_number 7 = .ok (.aload_n 0, 1) := dk_42 (dk_at dksX2_number_0 7 rfl rfl)
theorem dX2_number_8 : decode cX2_number 8 = .ok (.invokevirtual 121, 3) := dk_182 0 121 (dk_at dksX2_number_0 8 rfl rfl)
theorem dX2_number_11 : decode cX2_number 11 = .ok (.iload_n 3, 1) := dk_29 (dk_at dksX2_number_0 11 rfl rfl)
theorem dX2_number_12 : decode cX2_number 12 = .ok (.ireturn, 1) := dk_172 (dk_at dksX2_number_0 12 rfl rfl)
abbrev cX2_look : ByteArray := prog_15_method_18_code
def yX2_look : MethodName := ⟨RX2, "look", "(II)I"⟩
def dkwX2_look_2 : List UInt8 := [158, 0, 7, 27, 167, 0, 7, 42, 180, 0, 100, 172]
abbrev dktX2_look_2 : List UInt8 := dkwX2_look_2 ++ []
def dkwX2_look_1 : List UInt8 := [167, 0, 20, 42, 180, 0, 100, 27, 28, 184, 0, 96, 154, 0, 8, 42, 5, 182, 0, 127, 42, 180, 0, 77]
abbrev dktX2_look_1 : List UInt8 := dkwX2_look_1 ++ dktX2_look_2
def dkwX2_look_0 : List UInt8 := [42, 180, 0, 77, 158, 0, 5, 27, 172, 42, 180, 0, 93, 6, 159, 0, 11, 42, 4, 182, 0, 127]
abbrev dktX2_look_0 : List UInt8 := dkwX2_look_0 ++ dktX2_look_1
theorem dksX2_look_0 : cX2_look.data.toList.drop 0 = dktX2_look_0 := by decide +kernel
theorem dksX2_look_1 : cX2_look.data.toList.drop 22 = dktX2_look_1 := dk_seg dksX2_look_0 22 rfl rfl
theorem dksX2_look_2 : cX2_look.data.toList.drop 46 = dktX2_look_2 := dk_seg dksX2_look_1 24 rfl rfl
theorem dX2_look_0 : decode cX2_look 0 = .ok (.aload_n 0, 1) := dk_42 (dk_at dksX2_look_0 0 rfl rfl)
theorem dX2_look_1 : decode cX2_look 1 = .ok (.getfield 77, 3) := dk_180 0 77 (dk_at dksX2_look_0 1 rfl rfl)
theorem dX2_look_4 : decode cX2_look 4 = .ok (.ifCond .le 5, 3) := dk_158 0 5 (dk_at dksX2_look_0 4 rfl rfl)
theorem dX2_look_7 : decode cX2_look 7 = .ok (.iload_n 1, 1) := dk_27 (dk_at dksX2_look_0 7 rfl rfl)
theorem dX2_look_8 : decode cX2_look 8 = .ok (.ireturn, 1) := dk_172 (dk_at dksX2_look_0 8 rfl rfl)
theorem dX2_look_9 : decode cX2_look 9 = .ok (.aload_n 0, 1) := dk_42 (dk_at dksX2_look_0 9 rfl rfl)
theorem dX2_look_10 : decode cX2_look 10 = .ok (.getfield 93, 3) := dk_180 0 93 (dk_at dksX2_look_0 10 rfl rfl)
theorem dX2_look_13 : decode cX2_look 13 = .ok (.iconst 3, 1) := dk_6 (dk_at dksX2_look_0 13 rfl rfl)
theorem dX2_look_14 : decode cX2_look 14 = .ok (.if_icmp .eq 11, 3) := dk_159 0 11 (dk_at dksX2_look_0 14 rfl rfl)
theorem dX2_look_17 : decode cX2_look 17 = .ok (.aload_n 0, 1) := dk_42 (dk_at dksX2_look_0 17 rfl rfl)
theorem dX2_look_18 : decode cX2_look 18 = .ok (.iconst 1, 1) := dk_4 (dk_at dksX2_look_0 18 rfl rfl)
theorem dX2_look_19 : decode cX2_look 19 = .ok (.invokevirtual 127, 3) := dk_182 0 127 (dk_at dksX2_look_0 19 rfl rfl)
theorem dX2_look_22 : decode cX2_look 22 = .ok (.goto 20, 3) := dk_167 0 20 (dk_at dksX2_look_1 0 rfl rfl)
theorem dX2_look_25 : decode cX2_look 25 = .ok (.aload_n 0, 1) := dk_42 (dk_at dksX2_look_1 3 rfl rfl)
theorem dX2_look_26 : decode cX2_look 26 = .ok (.getfield 100, 3) := dk_180 0 100 (dk_at dksX2_look_1 4 rfl rfl)
theorem dX2_look_29 : decode cX2_look 29 = .ok (.iload_n 1, 1) := dk_27 (dk_at dksX2_look_1 7 rfl rfl)
theorem dX2_look_30 : decode cX2_look 30 = .ok (.iload_n 2, 1) := dk_28 (dk_at dksX2_look_1 8 rfl rfl)
theorem dX2_look_31 : decode cX2_look 31 = .ok (.invokestatic 96, 3) := dk_184 0 96 (dk_at dksX2_look_1 9 rfl rfl)
theorem dX2_look_34 : decode cX2_look 34 = .ok (.ifCond .ne 8, 3) := dk_154 0 8 (dk_at dksX2_look_1 12 rfl rfl)
theorem dX2_look_37 : decode cX2_look 37 = .ok (.aload_n 0, 1) := dk_42 (dk_at dksX2_look_1 15 rfl rfl)
theorem dX2_look_38 : decode cX2_look 38 = .ok (.iconst 2, 1) := dk_5 (dk_at dksX2_look_1 16 rfl rfl)
theorem dX2_look_39 : decode cX2_look 39 = .ok (.invokevirtual 127, 3) := dk_182 0 127 (dk_at dksX2_look_1 17 rfl rfl)
theorem dX2_look_42 : decode cX2_look 42 = .ok (.aload_n 0, 1) := dk_42 (dk_at dksX2_look_1 20 rfl rfl)
theorem dX2_look_43 : decode cX2_look 43 = .ok (.getfield 77, 3) := dk_180 0 77 (dk_at dksX2_look_1 21 rfl rfl)
theorem dX2_look_46 : decode cX2_look 46 = .ok (.ifCond .le 7, 3) := dk_158 0 7 (dk_at dksX2_look_2 0 rfl rfl)
theorem dX2_look_49 : decode cX2_look 49 = .ok (.iload_n 1, 1) := dk_27 (dk_at dksX2_look_2 3 rfl rfl)
theorem dX2_look_50 : decode cX2_look 50 = .ok (.goto 7, 3) := dk_167 0 7 (dk_at dksX2_look_2 4 rfl rfl)
theorem dX2_look_53 : decode cX2_look 53 = .ok (.aload_n 0, 1) := dk_42 (dk_at dksX2_look_2 7 rfl rfl)
theorem dX2_look_54 : decode cX2_look 54 = .ok (.getfield 100, 3) := dk_180 0 100 (dk_at dksX2_look_2 8 rfl rfl)
theorem dX2_look_57 : decode cX2_look 57 = .ok (.ireturn, 1) := dk_172 (dk_at dksX2_look_2 11 rfl rfl)
abbrev cX2_isSignHere : ByteArray := prog_15_method_14_code
def yX2_isSignHere : MethodName := ⟨RX2, "isSignHere", "(I)Z"⟩
def dkwX2_isSignHere_1 : List UInt8 := [167, 0, 4, 3, 172]
abbrev dktX2_isSignHere_1 : List UInt8 := dkwX2_isSignHere_1 ++ []
def dkwX2_isSignHere_0 : List UInt8 := [42, 180, 0, 77, 154, 0, 23, 42, 180, 0, 93, 7, 160, 0, 15, 42, 180, 0, 100, 27, 160, 0, 7, 4]
abbrev dktX2_isSignHere_0 : List UInt8 := dkwX2_isSignHere_0 ++ dktX2_isSignHere_1
theorem dksX2_isSignHere_0 : cX2_isSignHere.data.toList.drop 0 = dktX2_isSignHere_0 := by decide +kernel
theorem dksX2_isSignHere_1 : cX2_isSignHere.data.toList.drop 24 = dktX2_isSignHere_1 := dk_seg dksX2_isSignHere_0 24 rfl rfl
theorem dX2_isSignHere_0 : decode cX2_isSignHere 0 = .ok (.aload_n 0, 1) := dk_42 (dk_at dksX2_isSignHere_0 0 rfl rfl)
theorem dX2_isSignHere_1 : decode cX2_isSignHere 1 = .ok (.getfield 77, 3) := dk_180 0 77 (dk_at dksX2_isSignHere_0 1 rfl rfl)
theorem dX2_isSignHere_4 : decode cX2_isSignHere 4 = .ok (.ifCond .ne 23, 3) := dk_154 0 23 (dk_at dksX2_isSignHere_0 4 rfl rfl)
theorem dX2_isSignHere_7 : decode cX2_isSignHere 7 = .ok (.aload_n 0, 1) := dk_42 (dk_at dksX2_isSignHere_0 7 rfl rfl)
theorem dX2_isSignHere_8 : decode cX2_isSignHere 8 = .ok (.getfield 93, 3) := dk_180 0 93 (dk_at dksX2_isSignHere_0 8 rfl rfl)
theorem dX2_isSignHere_11 : decode cX2_isSignHere 11 = .ok (.iconst 4, 1) := dk_7 (dk_at dksX2_isSignHere_0 11 rfl rfl)
theorem dX2_isSignHere_12 : decode cX2_isSignHere 12 = .ok (.if_icmp .ne 15, 3) := dk_160 0 15 (dk_at dksX2_isSignHere_0 12 rfl rfl)
theorem dX2_isSignHere_15 : decode cX2_isSignHere 15 = .ok (.aload_n 0, 1) := dk_42 (dk_at dksX2_isSignHere_0 15 rfl rfl)
theorem dX2_isSignHere_16 : decode cX2_isSignHere 16 = .ok (.getfield 100, 3) := dk_180 0 100 (dk_at dksX2_isSignHere_0 16 rfl rfl)
theorem dX2_isSignHere_19 : decode cX2_isSignHere 19 = .ok (.iload_n 1, 1) := dk_27 (dk_at dksX2_isSignHere_0 19 rfl rfl)
theorem dX2_isSignHere_20 : decode cX2_isSignHere 20 = .ok (.if_icmp .ne 7, 3) := dk_160 0 7 (dk_at dksX2_isSignHere_0 20 rfl rfl)
theorem dX2_isSignHere_23 : decode cX2_isSignHere 23 = .ok (.iconst 1, 1) := dk_4 (dk_at dksX2_isSignHere_0 23 rfl rfl)
theorem dX2_isSignHere_24 : decode cX2_isSignHere 24 = .ok (.goto 4, 3) := dk_167 0 4 (dk_at dksX2_isSignHere_1 0 rfl rfl)
theorem dX2_isSignHere_27 : decode cX2_isSignHere 27 = .ok (.iconst 0, 1) := dk_3 (dk_at dksX2_isSignHere_1 3 rfl rfl)
theorem dX2_isSignHere_28 : decode cX2_isSignHere 28 = .ok (.ireturn, 1) := dk_172 (dk_at dksX2_isSignHere_1 4 rfl rfl)
abbrev cX2_readLine : ByteArray := prog_15_method_33_code
def yX2_readLine : MethodName := ⟨RX2, "readLine", "()V"⟩
def dkwX2_readLine_7 : List UInt8 := [4, 182, 0, 127, 177]
abbrev dktX2_readLine_7 : List UInt8 := dkwX2_readLine_7 ++ []
def dkwX2_readLine_6 : List UInt8 := [42, 182, 0, 213, 167, 0, 24, 42, 18, 216, 182, 0, 117, 153, 0, 10, 42, 182, 0, 218, 167, 0, 8, 42]
abbrev dktX2_readLine_6 : List UInt8 := dkwX2_readLine_6 ++ dktX2_readLine_7
def dkwX2_readLine_5 : List UInt8 := [18, 206, 182, 0, 117, 153, 0, 10, 42, 182, 0, 208, 167, 0, 40, 42, 18, 211, 182, 0, 117, 153, 0, 10]
abbrev dktX2_readLine_5 : List UInt8 := dkwX2_readLine_5 ++ dktX2_readLine_6
def dkwX2_readLine_4 : List UInt8 := [182, 0, 198, 167, 0, 72, 42, 18, 201, 182, 0, 117, 153, 0, 10, 42, 182, 0, 203, 167, 0, 56, 42]
abbrev dktX2_readLine_4 : List UInt8 := dkwX2_readLine_4 ++ dktX2_readLine_5
def dkwX2_readLine_3 : List UInt8 := [182, 0, 117, 153, 0, 10, 42, 182, 0, 193, 167, 0, 88, 42, 18, 196, 182, 0, 117, 153, 0, 10, 42]
abbrev dktX2_readLine_3 : List UInt8 := dkwX2_readLine_3 ++ dktX2_readLine_4
def dkwX2_readLine_2 : List UInt8 := [167, 0, 120, 42, 18, 186, 182, 0, 117, 153, 0, 10, 42, 182, 0, 188, 167, 0, 104, 42, 18, 191]
abbrev dktX2_readLine_2 : List UInt8 := dkwX2_readLine_2 ++ dktX2_readLine_3
def dkwX2_readLine_1 : List UInt8 := [153, 0, 10, 42, 182, 0, 178, 167, 0, 136, 42, 18, 181, 182, 0, 117, 153, 0, 10, 42, 182, 0, 183]
abbrev dktX2_readLine_1 : List UInt8 := dkwX2_readLine_1 ++ dktX2_readLine_2
def dkwX2_readLine_0 : List UInt8 := [42, 18, 171, 182, 0, 117, 153, 0, 10, 42, 182, 0, 173, 167, 0, 152, 42, 18, 176, 182, 0, 117]
abbrev dktX2_readLine_0 : List UInt8 := dkwX2_readLine_0 ++ dktX2_readLine_1
theorem dksX2_readLine_0 : cX2_readLine.data.toList.drop 0 = dktX2_readLine_0 := by decide +kernel
theorem dksX2_readLine_1 : cX2_readLine.data.toList.drop 22 = dktX2_readLine_1 := dk_seg dksX2_readLine_0 22 rfl rfl
theorem dksX2_readLine_2 : cX2_readLine.data.toList.drop 45 = dktX2_readLine_2 := dk_seg dksX2_readLine_1 23 rfl rfl
theorem dksX2_readLine_3 : cX2_readLine.data.toList.drop 67 = dktX2_readLine_3 := dk_seg dksX2_readLine_2 22 rfl rfl
theorem dksX2_readLine_4 : cX2_readLine.data.toList.drop 90 = dktX2_readLine_4 := dk_seg dksX2_readLine_3 23 rfl rfl
theorem dksX2_readLine_5 : cX2_readLine.data.toList.drop 113 = dktX2_readLine_5 := dk_seg dksX2_readLine_4 23 rfl rfl
theorem dksX2_readLine_6 : cX2_readLine.data.toList.drop 137 = dktX2_readLine_6 := dk_seg dksX2_readLine_5 24 rfl rfl
theorem dksX2_readLine_7 : cX2_readLine.data.toList.drop 161 = dktX2_readLine_7 := dk_seg dksX2_readLine_6 24 rfl rfl
theorem dX2_readLine_0 : decode cX2_readLine 0 = .ok (.aload_n 0, 1) := dk_42 (dk_at dksX2_readLine_0 0 rfl rfl)
theorem dX2_readLine_1 : decode cX2_readLine 1 = .ok (.ldc 171, 2) := dk_18 171 (dk_at dksX2_readLine_0 1 rfl rfl)
theorem dX2_readLine_3 : decode cX2_readLine 3 = .ok (.invokevirtual 117, 3) := dk_182 0 117 (dk_at dksX2_readLine_0 3 rfl rfl)
theorem dX2_readLine_6 : decode cX2_readLine 6 = .ok (.ifCond .eq 10, 3) := dk_153 0 10 (dk_at dksX2_readLine_0 6 rfl rfl)
theorem dX2_readLine_9 : decode cX2_readLine 9 = .ok (.aload_n 0, 1) := dk_42 (dk_at dksX2_readLine_0 9 rfl rfl)
theorem dX2_readLine_10 : decode cX2_readLine 10 = .ok (.invokevirtual 173, 3) := dk_182 0 173 (dk_at dksX2_readLine_0 10 rfl rfl)
theorem dX2_readLine_13 : decode cX2_readLine 13 = .ok (.goto 152, 3) := dk_167 0 152 (dk_at dksX2_readLine_0 13 rfl rfl)
theorem dX2_readLine_16 : decode cX2_readLine 16 = .ok (.aload_n 0, 1) := dk_42 (dk_at dksX2_readLine_0 16 rfl rfl)
theorem dX2_readLine_17 : decode cX2_readLine 17 = .ok (.ldc 176, 2) := dk_18 176 (dk_at dksX2_readLine_0 17 rfl rfl)
theorem dX2_readLine_19 : decode cX2_readLine 19 = .ok (.invokevirtual 117, 3) := dk_182 0 117 (dk_at dksX2_readLine_0 19 rfl rfl)
theorem dX2_readLine_22 : decode cX2_readLine 22 = .ok (.ifCond .eq 10, 3) := dk_153 0 10 (dk_at dksX2_readLine_1 0 rfl rfl)
theorem dX2_readLine_25 : decode cX2_readLine 25 = .ok (.aload_n 0, 1) := dk_42 (dk_at dksX2_readLine_1 3 rfl rfl)
theorem dX2_readLine_26 : decode cX2_readLine 26 = .ok (.invokevirtual 178, 3) := dk_182 0 178 (dk_at dksX2_readLine_1 4 rfl rfl)
theorem dX2_readLine_29 : decode cX2_readLine 29 = .ok (.goto 136, 3) := dk_167 0 136 (dk_at dksX2_readLine_1 7 rfl rfl)
theorem dX2_readLine_32 : decode cX2_readLine 32 = .ok (.aload_n 0, 1) := dk_42 (dk_at dksX2_readLine_1 10 rfl rfl)
theorem dX2_readLine_33 : decode cX2_readLine 33 = .ok (.ldc 181, 2) := dk_18 181 (dk_at dksX2_readLine_1 11 rfl rfl)
theorem dX2_readLine_35 : decode cX2_readLine 35 = .ok (.invokevirtual 117, 3) := dk_182 0 117 (dk_at dksX2_readLine_1 13 rfl rfl)
theorem dX2_readLine_38 : decode cX2_readLine 38 = .ok (.ifCond .eq 10, 3) := dk_153 0 10 (dk_at dksX2_readLine_1 16 rfl rfl)
theorem dX2_readLine_41 : decode cX2_readLine 41 = .ok (.aload_n 0, 1) := dk_42 (dk_at dksX2_readLine_1 19 rfl rfl)
theorem dX2_readLine_42 : decode cX2_readLine 42 = .ok (.invokevirtual 183, 3) := dk_182 0 183 (dk_at dksX2_readLine_1 20 rfl rfl)
theorem dX2_readLine_45 : decode cX2_readLine 45 = .ok (.goto 120, 3) := dk_167 0 120 (dk_at dksX2_readLine_2 0 rfl rfl)
theorem dX2_readLine_48 : decode cX2_readLine 48 = .ok (.aload_n 0, 1) := dk_42 (dk_at dksX2_readLine_2 3 rfl rfl)
theorem dX2_readLine_49 : decode cX2_readLine 49 = .ok (.ldc 186, 2) := dk_18 186 (dk_at dksX2_readLine_2 4 rfl rfl)
theorem dX2_readLine_51 : decode cX2_readLine 51 = .ok (.invokevirtual 117, 3) := dk_182 0 117 (dk_at dksX2_readLine_2 6 rfl rfl)
theorem dX2_readLine_54 : decode cX2_readLine 54 = .ok (.ifCond .eq 10, 3) := dk_153 0 10 (dk_at dksX2_readLine_2 9 rfl rfl)
theorem dX2_readLine_57 : decode cX2_readLine 57 = .ok (.aload_n 0, 1) := dk_42 (dk_at dksX2_readLine_2 12 rfl rfl)
theorem dX2_readLine_58 : decode cX2_readLine 58 = .ok (.invokevirtual 188, 3) := dk_182 0 188 (dk_at dksX2_readLine_2 13 rfl rfl)
theorem dX2_readLine_61 : decode cX2_readLine 61 = .ok (.goto 104, 3) := dk_167 0 104 (dk_at dksX2_readLine_2 16 rfl rfl)
theorem dX2_readLine_64 : decode cX2_readLine 64 = .ok (.aload_n 0, 1) := dk_42 (dk_at dksX2_readLine_2 19 rfl rfl)
theorem dX2_readLine_65 : decode cX2_readLine 65 = .ok (.ldc 191, 2) := dk_18 191 (dk_at dksX2_readLine_2 20 rfl rfl)
theorem dX2_readLine_67 : decode cX2_readLine 67 = .ok (.invokevirtual 117, 3) := dk_182 0 117 (dk_at dksX2_readLine_3 0 rfl rfl)
theorem dX2_readLine_70 : decode cX2_readLine 70 = .ok (.ifCond .eq 10, 3) := dk_153 0 10 (dk_at dksX2_readLine_3 3 rfl rfl)
theorem dX2_readLine_73 : decode cX2_readLine 73 = .ok (.aload_n 0, 1) := dk_42 (dk_at dksX2_readLine_3 6 rfl rfl)
theorem dX2_readLine_74 : decode cX2_readLine 74 = .ok (.invokevirtual 193, 3) := dk_182 0 193 (dk_at dksX2_readLine_3 7 rfl rfl)
theorem dX2_readLine_77 : decode cX2_readLine 77 = .ok (.goto 88, 3) := dk_167 0 88 (dk_at dksX2_readLine_3 10 rfl rfl)
theorem dX2_readLine_80 : decode cX2_readLine 80 = .ok (.aload_n 0, 1) := dk_42 (dk_at dksX2_readLine_3 13 rfl rfl)
theorem dX2_readLine_81 : decode cX2_readLine 81 = .ok (.ldc 196, 2) := dk_18 196 (dk_at dksX2_readLine_3 14 rfl rfl)
theorem dX2_readLine_83 : decode cX2_readLine 83 = .ok (.invokevirtual 117, 3) := dk_182 0 117 (dk_at dksX2_readLine_3 16 rfl rfl)
theorem dX2_readLine_86 : decode cX2_readLine 86 = .ok (.ifCond .eq 10, 3) := dk_153 0 10 (dk_at dksX2_readLine_3 19 rfl rfl)
theorem dX2_readLine_89 : decode cX2_readLine 89 = .ok (.aload_n 0, 1) := dk_42 (dk_at dksX2_readLine_3 22 rfl rfl)
theorem dX2_readLine_90 : decode cX2_readLine 90 = .ok (.invokevirtual 198, 3) := dk_182 0 198 (dk_at dksX2_readLine_4 0 rfl rfl)
theorem dX2_readLine_93 : decode cX2_readLine 93 = .ok (.goto 72, 3) := dk_167 0 72 (dk_at dksX2_readLine_4 3 rfl rfl)
theorem dX2_readLine_96 : decode cX2_readLine 96 = .ok (.aload_n 0, 1) := dk_42 (dk_at dksX2_readLine_4 6 rfl rfl)
theorem dX2_readLine_97 : decode cX2_readLine 97 = .ok (.ldc 201, 2) := dk_18 201 (dk_at dksX2_readLine_4 7 rfl rfl)
theorem dX2_readLine_99 : decode cX2_readLine 99 = .ok (.invokevirtual 117, 3) := dk_182 0 117 (dk_at dksX2_readLine_4 9 rfl rfl)
theorem dX2_readLine_102 : decode cX2_readLine 102 = .ok (.ifCond .eq 10, 3) := dk_153 0 10 (dk_at dksX2_readLine_4 12 rfl rfl)
theorem dX2_readLine_105 : decode cX2_readLine 105 = .ok (.aload_n 0, 1) := dk_42 (dk_at dksX2_readLine_4 15 rfl rfl)
theorem dX2_readLine_106 : decode cX2_readLine 106 = .ok (.invokevirtual 203, 3) := dk_182 0 203 (dk_at dksX2_readLine_4 16 rfl rfl)
theorem dX2_readLine_109 : decode cX2_readLine 109 = .ok (.goto 56, 3) := dk_167 0 56 (dk_at dksX2_readLine_4 19 rfl rfl)
theorem dX2_readLine_112 : decode cX2_readLine 112 = .ok (.aload_n 0, 1) := dk_42 (dk_at dksX2_readLine_4 22 rfl rfl)
theorem dX2_readLine_113 : decode cX2_readLine 113 = .ok (.ldc 206, 2) := dk_18 206 (dk_at dksX2_readLine_5 0 rfl rfl)
theorem dX2_readLine_115 : decode cX2_readLine 115 = .ok (.invokevirtual 117, 3) := dk_182 0 117 (dk_at dksX2_readLine_5 2 rfl rfl)
theorem dX2_readLine_118 : decode cX2_readLine 118 = .ok (.ifCond .eq 10, 3) := dk_153 0 10 (dk_at dksX2_readLine_5 5 rfl rfl)
theorem dX2_readLine_121 : decode cX2_readLine 121 = .ok (.aload_n 0, 1) := dk_42 (dk_at dksX2_readLine_5 8 rfl rfl)
theorem dX2_readLine_122 : decode cX2_readLine 122 = .ok (.invokevirtual 208, 3) := dk_182 0 208 (dk_at dksX2_readLine_5 9 rfl rfl)
theorem dX2_readLine_125 : decode cX2_readLine 125 = .ok (.goto 40, 3) := dk_167 0 40 (dk_at dksX2_readLine_5 12 rfl rfl)
theorem dX2_readLine_128 : decode cX2_readLine 128 = .ok (.aload_n 0, 1) := dk_42 (dk_at dksX2_readLine_5 15 rfl rfl)
theorem dX2_readLine_129 : decode cX2_readLine 129 = .ok (.ldc 211, 2) := dk_18 211 (dk_at dksX2_readLine_5 16 rfl rfl)
theorem dX2_readLine_131 : decode cX2_readLine 131 = .ok (.invokevirtual 117, 3) := dk_182 0 117 (dk_at dksX2_readLine_5 18 rfl rfl)
theorem dX2_readLine_134 : decode cX2_readLine 134 = .ok (.ifCond .eq 10, 3) := dk_153 0 10 (dk_at dksX2_readLine_5 21 rfl rfl)
theorem dX2_readLine_137 : decode cX2_readLine 137 = .ok (.aload_n 0, 1) := dk_42 (dk_at dksX2_readLine_6 0 rfl rfl)
theorem dX2_readLine_138 : decode cX2_readLine 138 = .ok (.invokevirtual 213, 3) := dk_182 0 213 (dk_at dksX2_readLine_6 1 rfl rfl)
theorem dX2_readLine_141 : decode cX2_readLine 141 = .ok (.goto 24, 3) := dk_167 0 24 (dk_at dksX2_readLine_6 4 rfl rfl)
theorem dX2_readLine_144 : decode cX2_readLine 144 = .ok (.aload_n 0, 1) := dk_42 (dk_at dksX2_readLine_6 7 rfl rfl)
theorem dX2_readLine_145 : decode cX2_readLine 145 = .ok (.ldc 216, 2) := dk_18 216 (dk_at dksX2_readLine_6 8 rfl rfl)
theorem dX2_readLine_147 : decode cX2_readLine 147 = .ok (.invokevirtual 117, 3) := dk_182 0 117 (dk_at dksX2_readLine_6 10 rfl rfl)
theorem dX2_readLine_150 : decode cX2_readLine 150 = .ok (.ifCond .eq 10, 3) := dk_153 0 10 (dk_at dksX2_readLine_6 13 rfl rfl)
theorem dX2_readLine_153 : decode cX2_readLine 153 = .ok (.aload_n 0, 1) := dk_42 (dk_at dksX2_readLine_6 16 rfl rfl)
theorem dX2_readLine_154 : decode cX2_readLine 154 = .ok (.invokevirtual 218, 3) := dk_182 0 218 (dk_at dksX2_readLine_6 17 rfl rfl)
theorem dX2_readLine_157 : decode cX2_readLine 157 = .ok (.goto 8, 3) := dk_167 0 8 (dk_at dksX2_readLine_6 20 rfl rfl)
theorem dX2_readLine_160 : decode cX2_readLine 160 = .ok (.aload_n 0, 1) := dk_42 (dk_at dksX2_readLine_6 23 rfl rfl)
theorem dX2_readLine_161 : decode cX2_readLine 161 = .ok (.iconst 1, 1) := dk_4 (dk_at dksX2_readLine_7 0 rfl rfl)
theorem dX2_readLine_162 : decode cX2_readLine 162 = .ok (.invokevirtual 127, 3) := dk_182 0 127 (dk_at dksX2_readLine_7 1 rfl rfl)
theorem dX2_readLine_165 : decode cX2_readLine 165 = .ok (.return_, 1) := dk_177 (dk_at dksX2_readLine_7 4 rfl rfl)
abbrev cX2_readWall : ByteArray := prog_15_method_26_code
def yX2_readWall : MethodName := ⟨RX2, "readWall", "()V"⟩
def dkwX2_readWall_3 : List UInt8 := [42, 180, 0, 20, 16, 71, 92, 46, 4, 96, 79, 177]
abbrev dktX2_readWall_3 : List UInt8 := dkwX2_readWall_3 ++ []
def dkwX2_readWall_2 : List UInt8 := [158, 0, 4, 177, 42, 180, 0, 20, 16, 72, 27, 96, 28, 79, 42, 180, 0, 20, 16, 74, 27, 96, 29, 79]
abbrev dktX2_readWall_2 : List UInt8 := dkwX2_readWall_2 ++ dktX2_readWall_3
def dkwX2_readWall_1 : List UInt8 := [17, 248, 48, 17, 7, 208, 182, 0, 158, 61, 42, 4, 16, 100, 182, 0, 138, 62, 42, 180, 0, 77]
abbrev dktX2_readWall_1 : List UInt8 := dkwX2_readWall_1 ++ dktX2_readWall_2
def dkwX2_readWall_0 : List UInt8 := [42, 180, 0, 20, 16, 71, 46, 60, 27, 5, 160, 0, 8, 42, 7, 182, 0, 127, 42, 182, 0, 121, 42]
abbrev dktX2_readWall_0 : List UInt8 := dkwX2_readWall_0 ++ dktX2_readWall_1
theorem dksX2_readWall_0 : cX2_readWall.data.toList.drop 0 = dktX2_readWall_0 := by decide +kernel
theorem dksX2_readWall_1 : cX2_readWall.data.toList.drop 23 = dktX2_readWall_1 := dk_seg dksX2_readWall_0 23 rfl rfl
theorem dksX2_readWall_2 : cX2_readWall.data.toList.drop 45 = dktX2_readWall_2 := dk_seg dksX2_readWall_1 22 rfl rfl
theorem dksX2_readWall_3 : cX2_readWall.data.toList.drop 69 = dktX2_readWall_3 := dk_seg dksX2_readWall_2 24 rfl rfl
theorem dX2_readWall_0 : decode cX2_readWall 0 = .ok (.aload_n 0, 1) := dk_42 (dk_at dksX2_readWall_0 0 rfl rfl)
theorem dX2_readWall_1 : decode cX2_readWall 1 = .ok (.getfield 20, 3) := dk_180 0 20 (dk_at dksX2_readWall_0 1 rfl rfl)
theorem dX2_readWall_4 : decode cX2_readWall 4 = .ok (.bipush 71, 2) := dk_16 71 (dk_at dksX2_readWall_0 4 rfl rfl)
theorem dX2_readWall_6 : decode cX2_readWall 6 = .ok (.iaload, 1) := dk_46 (dk_at dksX2_readWall_0 6 rfl rfl)
theorem dX2_readWall_7 : decode cX2_readWall 7 = .ok (.istore_n 1, 1) := dk_60 (dk_at dksX2_readWall_0 7 rfl rfl)
theorem dX2_readWall_8 : decode cX2_readWall 8 = .ok (.iload_n 1, 1) := dk_27 (dk_at dksX2_readWall_0 8 rfl rfl)
theorem dX2_readWall_9 : decode cX2_readWall 9 = .ok (.iconst 2, 1) := dk_5 (dk_at dksX2_readWall_0 9 rfl rfl)
theorem dX2_readWall_10 : decode cX2_readWall 10 = .ok (.if_icmp .ne 8, 3) := dk_160 0 8 (dk_at dksX2_readWall_0 10 rfl rfl)
theorem dX2_readWall_13 : decode cX2_readWall 13 = .ok (.aload_n 0, 1) := dk_42 (dk_at dksX2_readWall_0 13 rfl rfl)
theorem dX2_readWall_14 : decode cX2_readWall 14 = .ok (.iconst 4, 1) := dk_7 (dk_at dksX2_readWall_0 14 rfl rfl)
theorem dX2_readWall_15 : decode cX2_readWall 15 = .ok (.invokevirtual 127, 3) := dk_182 0 127 (dk_at dksX2_readWall_0 15 rfl rfl)
theorem dX2_readWall_18 : decode cX2_readWall 18 = .ok (.aload_n 0, 1) := dk_42 (dk_at dksX2_readWall_0 18 rfl rfl)
theorem dX2_readWall_19 : decode cX2_readWall 19 = .ok (.invokevirtual 121, 3) := dk_182 0 121 (dk_at dksX2_readWall_0 19 rfl rfl)
theorem dX2_readWall_22 : decode cX2_readWall 22 = .ok (.aload_n 0, 1) := dk_42 (dk_at dksX2_readWall_0 22 rfl rfl)
theorem dX2_readWall_23 : decode cX2_readWall 23 = .ok (.sipush (-2000), 3) := dk_17 248 48 (dk_at dksX2_readWall_1 0 rfl rfl)
theorem dX2_readWall_26 : decode cX2_readWall 26 = .ok (.sipush 2000, 3) := dk_17 7 208 (dk_at dksX2_readWall_1 3 rfl rfl)
theorem dX2_readWall_29 : decode cX2_readWall 29 = .ok (.invokevirtual 158, 3) := dk_182 0 158 (dk_at dksX2_readWall_1 6 rfl rfl)
theorem dX2_readWall_32 : decode cX2_readWall 32 = .ok (.istore_n 2, 1) := dk_61 (dk_at dksX2_readWall_1 9 rfl rfl)
theorem dX2_readWall_33 : decode cX2_readWall 33 = .ok (.aload_n 0, 1) := dk_42 (dk_at dksX2_readWall_1 10 rfl rfl)
theorem dX2_readWall_34 : decode cX2_readWall 34 = .ok (.iconst 1, 1) := dk_4 (dk_at dksX2_readWall_1 11 rfl rfl)
theorem dX2_readWall_35 : decode cX2_readWall 35 = .ok (.bipush 100, 2) := dk_16 100 (dk_at dksX2_readWall_1 12 rfl rfl)
theorem dX2_readWall_37 : decode cX2_readWall 37 = .ok (.invokevirtual 138, 3) := dk_182 0 138 (dk_at dksX2_readWall_1 14 rfl rfl)
theorem dX2_readWall_40 : decode cX2_readWall 40 = .ok (.istore_n 3, 1) := dk_62 (dk_at dksX2_readWall_1 17 rfl rfl)
theorem dX2_readWall_41 : decode cX2_readWall 41 = .ok (.aload_n 0, 1) := dk_42 (dk_at dksX2_readWall_1 18 rfl rfl)
theorem dX2_readWall_42 : decode cX2_readWall 42 = .ok (.getfield 77, 3) := dk_180 0 77 (dk_at dksX2_readWall_1 19 rfl rfl)
theorem dX2_readWall_45 : decode cX2_readWall 45 = .ok (.ifCond .le 4, 3) := dk_158 0 4 (dk_at dksX2_readWall_2 0 rfl rfl)
theorem dX2_readWall_48 : decode cX2_readWall 48 = .ok (.return_, 1) := dk_177 (dk_at dksX2_readWall_2 3 rfl rfl)
theorem dX2_readWall_49 : decode cX2_readWall 49 = .ok (.aload_n 0, 1) := dk_42 (dk_at dksX2_readWall_2 4 rfl rfl)
theorem dX2_readWall_50 : decode cX2_readWall 50 = .ok (.getfield 20, 3) := dk_180 0 20 (dk_at dksX2_readWall_2 5 rfl rfl)
theorem dX2_readWall_53 : decode cX2_readWall 53 = .ok (.bipush 72, 2) := dk_16 72 (dk_at dksX2_readWall_2 8 rfl rfl)
theorem dX2_readWall_55 : decode cX2_readWall 55 = .ok (.iload_n 1, 1) := dk_27 (dk_at dksX2_readWall_2 10 rfl rfl)
theorem dX2_readWall_56 : decode cX2_readWall 56 = .ok (.iadd, 1) := dk_96 (dk_at dksX2_readWall_2 11 rfl rfl)
theorem dX2_readWall_57 : decode cX2_readWall 57 = .ok (.iload_n 2, 1) := dk_28 (dk_at dksX2_readWall_2 12 rfl rfl)
theorem dX2_readWall_58 : decode cX2_readWall 58 = .ok (.iastore, 1) := dk_79 (dk_at dksX2_readWall_2 13 rfl rfl)
theorem dX2_readWall_59 : decode cX2_readWall 59 = .ok (.aload_n 0, 1) := dk_42 (dk_at dksX2_readWall_2 14 rfl rfl)
theorem dX2_readWall_60 : decode cX2_readWall 60 = .ok (.getfield 20, 3) := dk_180 0 20 (dk_at dksX2_readWall_2 15 rfl rfl)
theorem dX2_readWall_63 : decode cX2_readWall 63 = .ok (.bipush 74, 2) := dk_16 74 (dk_at dksX2_readWall_2 18 rfl rfl)
theorem dX2_readWall_65 : decode cX2_readWall 65 = .ok (.iload_n 1, 1) := dk_27 (dk_at dksX2_readWall_2 20 rfl rfl)
theorem dX2_readWall_66 : decode cX2_readWall 66 = .ok (.iadd, 1) := dk_96 (dk_at dksX2_readWall_2 21 rfl rfl)
theorem dX2_readWall_67 : decode cX2_readWall 67 = .ok (.iload_n 3, 1) := dk_29 (dk_at dksX2_readWall_2 22 rfl rfl)
theorem dX2_readWall_68 : decode cX2_readWall 68 = .ok (.iastore, 1) := dk_79 (dk_at dksX2_readWall_2 23 rfl rfl)
theorem dX2_readWall_69 : decode cX2_readWall 69 = .ok (.aload_n 0, 1) := dk_42 (dk_at dksX2_readWall_3 0 rfl rfl)
theorem dX2_readWall_70 : decode cX2_readWall 70 = .ok (.getfield 20, 3) := dk_180 0 20 (dk_at dksX2_readWall_3 1 rfl rfl)
theorem dX2_readWall_73 : decode cX2_readWall 73 = .ok (.bipush 71, 2) := dk_16 71 (dk_at dksX2_readWall_3 4 rfl rfl)
theorem dX2_readWall_75 : decode cX2_readWall 75 = .ok (.dup2, 1) := dk_92 (dk_at dksX2_readWall_3 6 rfl rfl)
theorem dX2_readWall_76 : decode cX2_readWall 76 = .ok (.iaload, 1) := dk_46 (dk_at dksX2_readWall_3 7 rfl rfl)
theorem dX2_readWall_77 : decode cX2_readWall 77 = .ok (.iconst 1, 1) := dk_4 (dk_at dksX2_readWall_3 8 rfl rfl)
theorem dX2_readWall_78 : decode cX2_readWall 78 = .ok (.iadd, 1) := dk_96 (dk_at dksX2_readWall_3 9 rfl rfl)
theorem dX2_readWall_79 : decode cX2_readWall 79 = .ok (.iastore, 1) := dk_79 (dk_at dksX2_readWall_3 10 rfl rfl)
theorem dX2_readWall_80 : decode cX2_readWall 80 = .ok (.return_, 1) := dk_177 (dk_at dksX2_readWall_3 11 rfl rfl)
abbrev cX2_signed : ByteArray := prog_15_method_21_code
def yX2_signed : MethodName := ⟨RX2, "signed", "(II)I"⟩
def dkwX2_signed_1 : List UInt8 := [182, 0, 138, 116, 167, 0, 9, 42, 27, 28, 182, 0, 138, 172]
abbrev dktX2_signed_1 : List UInt8 := dkwX2_signed_1 ++ []
def dkwX2_signed_0 : List UInt8 := [42, 16, 45, 182, 0, 141, 62, 29, 153, 0, 7, 42, 182, 0, 121, 29, 153, 0, 15, 42, 28, 116, 27, 116]
abbrev dktX2_signed_0 : List UInt8 := dkwX2_signed_0 ++ dktX2_signed_1
theorem dksX2_signed_0 : cX2_signed.data.toList.drop 0 = dktX2_signed_0 := by decide +kernel
theorem dksX2_signed_1 : cX2_signed.data.toList.drop 24 = dktX2_signed_1 := dk_seg dksX2_signed_0 24 rfl rfl
theorem dX2_signed_0 : decode cX2_signed 0 = .ok (.aload_n 0, 1) := dk_42 (dk_at dksX2_signed_0 0 rfl rfl)
theorem dX2_signed_1 : decode cX2_signed 1 = .ok (.bipush 45, 2) := dk_16 45 (dk_at dksX2_signed_0 1 rfl rfl)
theorem dX2_signed_3 : decode cX2_signed 3 = .ok (.invokevirtual 141, 3) := dk_182 0 141 (dk_at dksX2_signed_0 3 rfl rfl)
theorem dX2_signed_6 : decode cX2_signed 6 = .ok (.istore_n 3, 1) := dk_62 (dk_at dksX2_signed_0 6 rfl rfl)
theorem dX2_signed_7 : decode cX2_signed 7 = .ok (.iload_n 3, 1) := dk_29 (dk_at dksX2_signed_0 7 rfl rfl)
theorem dX2_signed_8 : decode cX2_signed 8 = .ok (.ifCond .eq 7, 3) := dk_153 0 7 (dk_at dksX2_signed_0 8 rfl rfl)
theorem dX2_signed_11 : decode cX2_signed 11 = .ok (.aload_n 0, 1) := dk_42 (dk_at dksX2_signed_0 11 rfl rfl)
theorem dX2_signed_12 : decode cX2_signed 12 = .ok (.invokevirtual 121, 3) := dk_182 0 121 (dk_at dksX2_signed_0 12 rfl rfl)
theorem dX2_signed_15 : decode cX2_signed 15 = .ok (.iload_n 3, 1) := dk_29 (dk_at dksX2_signed_0 15 rfl rfl)
theorem dX2_signed_16 : decode cX2_signed 16 = .ok (.ifCond .eq 15, 3) := dk_153 0 15 (dk_at dksX2_signed_0 16 rfl rfl)
theorem dX2_signed_19 : decode cX2_signed 19 = .ok (.aload_n 0, 1) := dk_42 (dk_at dksX2_signed_0 19 rfl rfl)
theorem dX2_signed_20 : decode cX2_signed 20 = .ok (.iload_n 2, 1) := dk_28 (dk_at dksX2_signed_0 20 rfl rfl)
theorem dX2_signed_21 : decode cX2_signed 21 = .ok (.ineg, 1) := dk_116 (dk_at dksX2_signed_0 21 rfl rfl)
theorem dX2_signed_22 : decode cX2_signed 22 = .ok (.iload_n 1, 1) := dk_27 (dk_at dksX2_signed_0 22 rfl rfl)
theorem dX2_signed_23 : decode cX2_signed 23 = .ok (.ineg, 1) := dk_116 (dk_at dksX2_signed_0 23 rfl rfl)
theorem dX2_signed_24 : decode cX2_signed 24 = .ok (.invokevirtual 138, 3) := dk_182 0 138 (dk_at dksX2_signed_1 0 rfl rfl)
theorem dX2_signed_27 : decode cX2_signed 27 = .ok (.ineg, 1) := dk_116 (dk_at dksX2_signed_1 3 rfl rfl)
theorem dX2_signed_28 : decode cX2_signed 28 = .ok (.goto 9, 3) := dk_167 0 9 (dk_at dksX2_signed_1 4 rfl rfl)
theorem dX2_signed_31 : decode cX2_signed 31 = .ok (.aload_n 0, 1) := dk_42 (dk_at dksX2_signed_1 7 rfl rfl)
theorem dX2_signed_32 : decode cX2_signed 32 = .ok (.iload_n 1, 1) := dk_27 (dk_at dksX2_signed_1 8 rfl rfl)
theorem dX2_signed_33 : decode cX2_signed 33 = .ok (.iload_n 2, 1) := dk_28 (dk_at dksX2_signed_1 9 rfl rfl)
theorem dX2_signed_34 : decode cX2_signed 34 = .ok (.invokevirtual 138, 3) := dk_182 0 138 (dk_at dksX2_signed_1 10 rfl rfl)
theorem dX2_signed_37 : decode cX2_signed 37 = .ok (.ireturn, 1) := dk_172 (dk_at dksX2_signed_1 13 rfl rfl)
abbrev cX2_readFade : ByteArray := prog_15_method_27_code
def yX2_readFade : MethodName := ⟨RX2, "readFade", "()V"⟩
def dkwX2_readFade_1 : List UInt8 := [182, 0, 138, 60, 42, 180, 0, 77, 154, 0, 11, 42, 180, 0, 20, 16, 76, 27, 79, 177]
abbrev dktX2_readFade_1 : List UInt8 := dkwX2_readFade_1 ++ []
def dkwX2_readFade_0 : List UInt8 := [42, 180, 0, 20, 16, 76, 46, 158, 0, 8, 42, 6, 182, 0, 127, 42, 182, 0, 121, 42, 4, 17, 3, 231]
abbrev dktX2_readFade_0 : List UInt8 := dkwX2_readFade_0 ++ dktX2_readFade_1
theorem dksX2_readFade_0 : cX2_readFade.data.toList.drop 0 = dktX2_readFade_0 := by decide +kernel
theorem dksX2_readFade_1 : cX2_readFade.data.toList.drop 24 = dktX2_readFade_1 := dk_seg dksX2_readFade_0 24 rfl rfl
theorem dX2_readFade_0 : decode cX2_readFade 0 = .ok (.aload_n 0, 1) := dk_42 (dk_at dksX2_readFade_0 0 rfl rfl)
theorem dX2_readFade_1 : decode cX2_readFade 1 = .ok (.getfield 20, 3) := dk_180 0 20 (dk_at dksX2_readFade_0 1 rfl rfl)
theorem dX2_readFade_4 : decode cX2_readFade 4 = .ok (.bipush 76, 2) := dk_16 76 (dk_at dksX2_readFade_0 4 rfl rfl)
theorem dX2_readFade_6 : decode cX2_readFade 6 = .ok (.iaload, 1) := dk_46 (dk_at dksX2_readFade_0 6 rfl rfl)
theorem dX2_readFade_7 : decode cX2_readFade 7 = .ok (.ifCond .le 8, 3) := dk_158 0 8 (dk_at dksX2_readFade_0 7 rfl rfl)
theorem dX2_readFade_10 : decode cX2_readFade 10 = .ok (.aload_n 0, 1) := dk_42 (dk_at dksX2_readFade_0 10 rfl rfl)
theorem dX2_readFade_11 : decode cX2_readFade 11 = .ok (.iconst 3, 1) := dk_6 (dk_at dksX2_readFade_0 11 rfl rfl)
theorem dX2_readFade_12 : decode cX2_readFade 12 = .ok (.invokevirtual 127, 3) := dk_182 0 127 (dk_at dksX2_readFade_0 12 rfl rfl)
theorem dX2_readFade_15 : decode cX2_readFade 15 = .ok (.aload_n 0, 1) := dk_42 (dk_at dksX2_readFade_0 15 rfl rfl)
theorem dX2_readFade_16 : decode cX2_readFade 16 = .ok (.invokevirtual 121, 3) := dk_182 0 121 (dk_at dksX2_readFade_0 16 rfl rfl)
theorem dX2_readFade_19 : decode cX2_readFade 19 = .ok (.aload_n 0, 1) := dk_42 (dk_at dksX2_readFade_0 19 rfl rfl)
theorem dX2_readFade_20 : decode cX2_readFade 20 = .ok (.iconst 1, 1) := dk_4 (dk_at dksX2_readFade_0 20 rfl rfl)
theorem dX2_readFade_21 : decode cX2_readFade 21 = .ok (.sipush 999, 3) := dk_17 3 231 (dk_at dksX2_readFade_0 21 rfl rfl)
theorem dX2_readFade_24 : decode cX2_readFade 24 = .ok (.invokevirtual 138, 3) := dk_182 0 138 (dk_at dksX2_readFade_1 0 rfl rfl)
theorem dX2_readFade_27 : decode cX2_readFade 27 = .ok (.istore_n 1, 1) := dk_60 (dk_at dksX2_readFade_1 3 rfl rfl)
theorem dX2_readFade_28 : decode cX2_readFade 28 = .ok (.aload_n 0, 1) := dk_42 (dk_at dksX2_readFade_1 4 rfl rfl)
theorem dX2_readFade_29 : decode cX2_readFade 29 = .ok (.getfield 77, 3) := dk_180 0 77 (dk_at dksX2_readFade_1 5 rfl rfl)
theorem dX2_readFade_32 : decode cX2_readFade 32 = .ok (.ifCond .ne 11, 3) := dk_154 0 11 (dk_at dksX2_readFade_1 8 rfl rfl)
theorem dX2_readFade_35 : decode cX2_readFade 35 = .ok (.aload_n 0, 1) := dk_42 (dk_at dksX2_readFade_1 11 rfl rfl)
theorem dX2_readFade_36 : decode cX2_readFade 36 = .ok (.getfield 20, 3) := dk_180 0 20 (dk_at dksX2_readFade_1 12 rfl rfl)
theorem dX2_readFade_39 : decode cX2_readFade 39 = .ok (.bipush 76, 2) := dk_16 76 (dk_at dksX2_readFade_1 15 rfl rfl)
theorem dX2_readFade_41 : decode cX2_readFade 41 = .ok (.iload_n 1, 1) := dk_27 (dk_at dksX2_readFade_1 17 rfl rfl)
theorem dX2_readFade_42 : decode cX2_readFade 42 = .ok (.iastore, 1) := dk_79 (dk_at dksX2_readFade_1 18 rfl rfl)
theorem dX2_readFade_43 : decode cX2_readFade 43 = .ok (.return_, 1) := dk_177 (dk_at dksX2_readFade_1 19 rfl rfl)
abbrev cX2_readFilter : ByteArray := prog_15_method_28_code
def yX2_readFilter : MethodName := ⟨RX2, "readFilter", "()V"⟩
def dkwX2_readFilter_5 : List UInt8 := [159, 255, 161, 42, 16, 45, 182, 0, 141, 154, 255, 152, 177]
abbrev dktX2_readFilter_5 : List UInt8 := dkwX2_readFilter_5 ++ []
def dkwX2_readFilter_4 : List UInt8 := [16, 77, 46, 96, 28, 79, 42, 180, 0, 20, 16, 77, 92, 46, 4, 96, 79, 42, 180, 0, 93, 6]
abbrev dktX2_readFilter_4 : List UInt8 := dkwX2_readFilter_4 ++ dktX2_readFilter_5
def dkwX2_readFilter_3 : List UInt8 := [16, 9, 182, 0, 158, 61, 42, 180, 0, 77, 158, 0, 4, 177, 42, 180, 0, 20, 16, 78, 42, 180, 0, 20]
abbrev dktX2_readFilter_3 : List UInt8 := dkwX2_readFilter_3 ++ dktX2_readFilter_4
def dkwX2_readFilter_2 : List UInt8 := [160, 0, 11, 42, 3, 16, 9, 182, 0, 130, 87, 27, 153, 0, 8, 42, 7, 182, 0, 127, 42, 16, 247]
abbrev dktX2_readFilter_2 : List UInt8 := dkwX2_readFilter_2 ++ dktX2_readFilter_3
def dkwX2_readFilter_1 : List UInt8 := [16, 77, 46, 8, 160, 0, 7, 4, 167, 0, 4, 3, 60, 27, 153, 0, 19, 42, 180, 0, 93, 6]
abbrev dktX2_readFilter_1 : List UInt8 := dkwX2_readFilter_1 ++ dktX2_readFilter_2
def dkwX2_readFilter_0 : List UInt8 := [42, 180, 0, 20, 16, 77, 46, 158, 0, 8, 42, 6, 182, 0, 127, 42, 182, 0, 121, 42, 180, 0, 20]
abbrev dktX2_readFilter_0 : List UInt8 := dkwX2_readFilter_0 ++ dktX2_readFilter_1
theorem dksX2_readFilter_0 : cX2_readFilter.data.toList.drop 0 = dktX2_readFilter_0 := by decide +kernel
theorem dksX2_readFilter_1 : cX2_readFilter.data.toList.drop 23 = dktX2_readFilter_1 := dk_seg dksX2_readFilter_0 23 rfl rfl
theorem dksX2_readFilter_2 : cX2_readFilter.data.toList.drop 45 = dktX2_readFilter_2 := dk_seg dksX2_readFilter_1 22 rfl rfl
theorem dksX2_readFilter_3 : cX2_readFilter.data.toList.drop 68 = dktX2_readFilter_3 := dk_seg dksX2_readFilter_2 23 rfl rfl
theorem dksX2_readFilter_4 : cX2_readFilter.data.toList.drop 92 = dktX2_readFilter_4 := dk_seg dksX2_readFilter_3 24 rfl rfl
theorem dksX2_readFilter_5 : cX2_readFilter.data.toList.drop 114 = dktX2_readFilter_5 := dk_seg dksX2_readFilter_4 22 rfl rfl
theorem dX2_readFilter_0 : decode cX2_readFilter 0 = .ok (.aload_n 0, 1) := dk_42 (dk_at dksX2_readFilter_0 0 rfl rfl)
theorem dX2_readFilter_1 : decode cX2_readFilter 1 = .ok (.getfield 20, 3) := dk_180 0 20 (dk_at dksX2_readFilter_0 1 rfl rfl)
theorem dX2_readFilter_4 : decode cX2_readFilter 4 = .ok (.bipush 77, 2) := dk_16 77 (dk_at dksX2_readFilter_0 4 rfl rfl)
theorem dX2_readFilter_6 : decode cX2_readFilter 6 = .ok (.iaload, 1) := dk_46 (dk_at dksX2_readFilter_0 6 rfl rfl)
theorem dX2_readFilter_7 : decode cX2_readFilter 7 = .ok (.ifCond .le 8, 3) := dk_158 0 8 (dk_at dksX2_readFilter_0 7 rfl rfl)
theorem dX2_readFilter_10 : decode cX2_readFilter 10 = .ok (.aload_n 0, 1) := dk_42 (dk_at dksX2_readFilter_0 10 rfl rfl)
theorem dX2_readFilter_11 : decode cX2_readFilter 11 = .ok (.iconst 3, 1) := dk_6 (dk_at dksX2_readFilter_0 11 rfl rfl)
theorem dX2_readFilter_12 : decode cX2_readFilter 12 = .ok (.invokevirtual 127, 3) := dk_182 0 127 (dk_at dksX2_readFilter_0 12 rfl rfl)
theorem dX2_readFilter_15 : decode cX2_readFilter 15 = .ok (.aload_n 0, 1) := dk_42 (dk_at dksX2_readFilter_0 15 rfl rfl)
theorem dX2_readFilter_16 : decode cX2_readFilter 16 = .ok (.invokevirtual 121, 3) := dk_182 0 121 (dk_at dksX2_readFilter_0 16 rfl rfl)
theorem dX2_readFilter_19 : decode cX2_readFilter 19 = .ok (.aload_n 0, 1) := dk_42 (dk_at dksX2_readFilter_0 19 rfl rfl)
theorem dX2_readFilter_20 : decode cX2_readFilter 20 = .ok (.getfield 20, 3) := dk_180 0 20 (dk_at dksX2_readFilter_0 20 rfl rfl)
theorem dX2_readFilter_23 : decode cX2_readFilter 23 = .ok (.bipush 77, 2) := dk_16 77 (dk_at dksX2_readFilter_1 0 rfl rfl)
theorem dX2_readFilter_25 : decode cX2_readFilter 25 = .ok (.iaload, 1) := dk_46 (dk_at dksX2_readFilter_1 2 rfl rfl)
theorem dX2_readFilter_26 : decode cX2_readFilter 26 = .ok (.iconst 5, 1) := dk_8 (dk_at dksX2_readFilter_1 3 rfl rfl)
theorem dX2_readFilter_27 : decode cX2_readFilter 27 = .ok (.if_icmp .ne 7, 3) := dk_160 0 7 (dk_at dksX2_readFilter_1 4 rfl rfl)
theorem dX2_readFilter_30 : decode cX2_readFilter 30 = .ok (.iconst 1, 1) := dk_4 (dk_at dksX2_readFilter_1 7 rfl rfl)
theorem dX2_readFilter_31 : decode cX2_readFilter 31 = .ok (.goto 4, 3) := dk_167 0 4 (dk_at dksX2_readFilter_1 8 rfl rfl)
theorem dX2_readFilter_34 : decode cX2_readFilter 34 = .ok (.iconst 0, 1) := dk_3 (dk_at dksX2_readFilter_1 11 rfl rfl)
theorem dX2_readFilter_35 : decode cX2_readFilter 35 = .ok (.istore_n 1, 1) := dk_60 (dk_at dksX2_readFilter_1 12 rfl rfl)
theorem dX2_readFilter_36 : decode cX2_readFilter 36 = .ok (.iload_n 1, 1) := dk_27 (dk_at dksX2_readFilter_1 13 rfl rfl)
theorem dX2_readFilter_37 : decode cX2_readFilter 37 = .ok (.ifCond .eq 19, 3) := dk_153 0 19 (dk_at dksX2_readFilter_1 14 rfl rfl)
theorem dX2_readFilter_40 : decode cX2_readFilter 40 = .ok (.aload_n 0, 1) := dk_42 (dk_at dksX2_readFilter_1 17 rfl rfl)
theorem dX2_readFilter_41 : decode cX2_readFilter 41 = .ok (.getfield 93, 3) := dk_180 0 93 (dk_at dksX2_readFilter_1 18 rfl rfl)
theorem dX2_readFilter_44 : decode cX2_readFilter 44 = .ok (.iconst 3, 1) := dk_6 (dk_at dksX2_readFilter_1 21 rfl rfl)
theorem dX2_readFilter_45 : decode cX2_readFilter 45 = .ok (.if_icmp .ne 11, 3) := dk_160 0 11 (dk_at dksX2_readFilter_2 0 rfl rfl)
theorem dX2_readFilter_48 : decode cX2_readFilter 48 = .ok (.aload_n 0, 1) := dk_42 (dk_at dksX2_readFilter_2 3 rfl rfl)
theorem dX2_readFilter_49 : decode cX2_readFilter 49 = .ok (.iconst 0, 1) := dk_3 (dk_at dksX2_readFilter_2 4 rfl rfl)
theorem dX2_readFilter_50 : decode cX2_readFilter 50 = .ok (.bipush 9, 2) := dk_16 9 (dk_at dksX2_readFilter_2 5 rfl rfl)
theorem dX2_readFilter_52 : decode cX2_readFilter 52 = .ok (.invokevirtual 130, 3) := dk_182 0 130 (dk_at dksX2_readFilter_2 7 rfl rfl)
theorem dX2_readFilter_55 : decode cX2_readFilter 55 = .ok (.pop, 1) := dk_87 (dk_at dksX2_readFilter_2 10 rfl rfl)
theorem dX2_readFilter_56 : decode cX2_readFilter 56 = .ok (.iload_n 1, 1) := dk_27 (dk_at dksX2_readFilter_2 11 rfl rfl)
theorem dX2_readFilter_57 : decode cX2_readFilter 57 = .ok (.ifCond .eq 8, 3) := dk_153 0 8 (dk_at dksX2_readFilter_2 12 rfl rfl)
theorem dX2_readFilter_60 : decode cX2_readFilter 60 = .ok (.aload_n 0, 1) := dk_42 (dk_at dksX2_readFilter_2 15 rfl rfl)
theorem dX2_readFilter_61 : decode cX2_readFilter 61 = .ok (.iconst 4, 1) := dk_7 (dk_at dksX2_readFilter_2 16 rfl rfl)
theorem dX2_readFilter_62 : decode cX2_readFilter 62 = .ok (.invokevirtual 127, 3) := dk_182 0 127 (dk_at dksX2_readFilter_2 17 rfl rfl)
theorem dX2_readFilter_65 : decode cX2_readFilter 65 = .ok (.aload_n 0, 1) := dk_42 (dk_at dksX2_readFilter_2 20 rfl rfl)
theorem dX2_readFilter_66 : decode cX2_readFilter 66 = .ok (.bipush (-9), 2) := dk_16 247 (dk_at dksX2_readFilter_2 21 rfl rfl)
theorem dX2_readFilter_68 : decode cX2_readFilter 68 = .ok (.bipush 9, 2) := dk_16 9 (dk_at dksX2_readFilter_3 0 rfl rfl)
theorem dX2_readFilter_70 : decode cX2_readFilter 70 = .ok (.invokevirtual 158, 3) := dk_182 0 158 (dk_at dksX2_readFilter_3 2 rfl rfl)
theorem dX2_readFilter_73 : decode cX2_readFilter 73 = .ok (.istore_n 2, 1) := dk_61 (dk_at dksX2_readFilter_3 5 rfl rfl)
theorem dX2_readFilter_74 : decode cX2_readFilter 74 = .ok (.aload_n 0, 1) := dk_42 (dk_at dksX2_readFilter_3 6 rfl rfl)
theorem dX2_readFilter_75 : decode cX2_readFilter 75 = .ok (.getfield 77, 3) := dk_180 0 77 (dk_at dksX2_readFilter_3 7 rfl rfl)
theorem dX2_readFilter_78 : decode cX2_readFilter 78 = .ok (.ifCond .le 4, 3) := dk_158 0 4 (dk_at dksX2_readFilter_3 10 rfl rfl)
theorem dX2_readFilter_81 : decode cX2_readFilter 81 = .ok (.return_, 1) := dk_177 (dk_at dksX2_readFilter_3 13 rfl rfl)
theorem dX2_readFilter_82 : decode cX2_readFilter 82 = .ok (.aload_n 0, 1) := dk_42 (dk_at dksX2_readFilter_3 14 rfl rfl)
theorem dX2_readFilter_83 : decode cX2_readFilter 83 = .ok (.getfield 20, 3) := dk_180 0 20 (dk_at dksX2_readFilter_3 15 rfl rfl)
theorem dX2_readFilter_86 : decode cX2_readFilter 86 = .ok (.bipush 78, 2) := dk_16 78 (dk_at dksX2_readFilter_3 18 rfl rfl)
theorem dX2_readFilter_88 : decode cX2_readFilter 88 = .ok (.aload_n 0, 1) := dk_42 (dk_at dksX2_readFilter_3 20 rfl rfl)
theorem dX2_readFilter_89 : decode cX2_readFilter 89 = .ok (.getfield 20, 3) := dk_180 0 20 (dk_at dksX2_readFilter_3 21 rfl rfl)
theorem dX2_readFilter_92 : decode cX2_readFilter 92 = .ok (.bipush 77, 2) := dk_16 77 (dk_at dksX2_readFilter_4 0 rfl rfl)
theorem dX2_readFilter_94 : decode cX2_readFilter 94 = .ok (.iaload, 1) := dk_46 (dk_at dksX2_readFilter_4 2 rfl rfl)
theorem dX2_readFilter_95 : decode cX2_readFilter 95 = .ok (.iadd, 1) := dk_96 (dk_at dksX2_readFilter_4 3 rfl rfl)
theorem dX2_readFilter_96 : decode cX2_readFilter 96 = .ok (.iload_n 2, 1) := dk_28 (dk_at dksX2_readFilter_4 4 rfl rfl)
theorem dX2_readFilter_97 : decode cX2_readFilter 97 = .ok (.iastore, 1) := dk_79 (dk_at dksX2_readFilter_4 5 rfl rfl)
theorem dX2_readFilter_98 : decode cX2_readFilter 98 = .ok (.aload_n 0, 1) := dk_42 (dk_at dksX2_readFilter_4 6 rfl rfl)
theorem dX2_readFilter_99 : decode cX2_readFilter 99 = .ok (.getfield 20, 3) := dk_180 0 20 (dk_at dksX2_readFilter_4 7 rfl rfl)
theorem dX2_readFilter_102 : decode cX2_readFilter 102 = .ok (.bipush 77, 2) := dk_16 77 (dk_at dksX2_readFilter_4 10 rfl rfl)
theorem dX2_readFilter_104 : decode cX2_readFilter 104 = .ok (.dup2, 1) := dk_92 (dk_at dksX2_readFilter_4 12 rfl rfl)
theorem dX2_readFilter_105 : decode cX2_readFilter 105 = .ok (.iaload, 1) := dk_46 (dk_at dksX2_readFilter_4 13 rfl rfl)
theorem dX2_readFilter_106 : decode cX2_readFilter 106 = .ok (.iconst 1, 1) := dk_4 (dk_at dksX2_readFilter_4 14 rfl rfl)
theorem dX2_readFilter_107 : decode cX2_readFilter 107 = .ok (.iadd, 1) := dk_96 (dk_at dksX2_readFilter_4 15 rfl rfl)
theorem dX2_readFilter_108 : decode cX2_readFilter 108 = .ok (.iastore, 1) := dk_79 (dk_at dksX2_readFilter_4 16 rfl rfl)
theorem dX2_readFilter_109 : decode cX2_readFilter 109 = .ok (.aload_n 0, 1) := dk_42 (dk_at dksX2_readFilter_4 17 rfl rfl)
theorem dX2_readFilter_110 : decode cX2_readFilter 110 = .ok (.getfield 93, 3) := dk_180 0 93 (dk_at dksX2_readFilter_4 18 rfl rfl)
theorem dX2_readFilter_113 : decode cX2_readFilter 113 = .ok (.iconst 3, 1) := dk_6 (dk_at dksX2_readFilter_4 21 rfl rfl)
theorem dX2_readFilter_114 : decode cX2_readFilter 114 = .ok (.if_icmp .eq (-95), 3) := dk_159 255 161 (dk_at dksX2_readFilter_5 0 rfl rfl)
theorem dX2_readFilter_117 : decode cX2_readFilter 117 = .ok (.aload_n 0, 1) := dk_42 (dk_at dksX2_readFilter_5 3 rfl rfl)
theorem dX2_readFilter_118 : decode cX2_readFilter 118 = .ok (.bipush 45, 2) := dk_16 45 (dk_at dksX2_readFilter_5 4 rfl rfl)
theorem dX2_readFilter_120 : decode cX2_readFilter 120 = .ok (.invokevirtual 141, 3) := dk_182 0 141 (dk_at dksX2_readFilter_5 6 rfl rfl)
theorem dX2_readFilter_123 : decode cX2_readFilter 123 = .ok (.ifCond .ne (-104), 3) := dk_154 255 152 (dk_at dksX2_readFilter_5 9 rfl rfl)
theorem dX2_readFilter_126 : decode cX2_readFilter 126 = .ok (.return_, 1) := dk_177 (dk_at dksX2_readFilter_5 12 rfl rfl)
abbrev cX2_readClock : ByteArray := prog_15_method_29_code
def yX2_readClock : MethodName := ⟨RX2, "readClock", "()V"⟩
def dkwX2_readClock_3 : List UInt8 := [79, 177]
abbrev dktX2_readClock_3 : List UInt8 := dkwX2_readClock_3 ++ []
def dkwX2_readClock_2 : List UInt8 := [42, 4, 16, 31, 182, 0, 138, 61, 42, 180, 0, 77, 154, 0, 13, 42, 180, 0, 20, 16, 83, 27, 96, 28]
abbrev dktX2_readClock_2 : List UInt8 := dkwX2_readClock_2 ++ dktX2_readClock_3
def dkwX2_readClock_1 : List UInt8 := [154, 0, 20, 42, 180, 0, 20, 16, 83, 27, 96, 46, 158, 0, 8, 42, 6, 182, 0, 127, 42, 182, 0, 121]
abbrev dktX2_readClock_1 : List UInt8 := dkwX2_readClock_1 ++ dktX2_readClock_2
def dkwX2_readClock_0 : List UInt8 := [42, 182, 0, 121, 42, 3, 42, 180, 0, 20, 7, 46, 4, 100, 182, 0, 130, 60, 42, 180, 0, 77]
abbrev dktX2_readClock_0 : List UInt8 := dkwX2_readClock_0 ++ dktX2_readClock_1
theorem dksX2_readClock_0 : cX2_readClock.data.toList.drop 0 = dktX2_readClock_0 := by decide +kernel
theorem dksX2_readClock_1 : cX2_readClock.data.toList.drop 22 = dktX2_readClock_1 := dk_seg dksX2_readClock_0 22 rfl rfl
theorem dksX2_readClock_2 : cX2_readClock.data.toList.drop 46 = dktX2_readClock_2 := dk_seg dksX2_readClock_1 24 rfl rfl
theorem dksX2_readClock_3 : cX2_readClock.data.toList.drop 70 = dktX2_readClock_3 := dk_seg dksX2_readClock_2 24 rfl rfl
theorem dX2_readClock_0 : decode cX2_readClock 0 = .ok (.aload_n 0, 1) := dk_42 (dk_at dksX2_readClock_0 0 rfl rfl)
theorem dX2_readClock_1 : decode cX2_readClock 1 = .ok (.invokevirtual 121, 3) := dk_182 0 121 (dk_at dksX2_readClock_0 1 rfl rfl)
theorem dX2_readClock_4 : decode cX2_readClock 4 = .ok (.aload_n 0, 1) := dk_42 (dk_at dksX2_readClock_0 4 rfl rfl)
theorem dX2_readClock_5 : decode cX2_readClock 5 = .ok (.iconst 0, 1) := dk_3 (dk_at dksX2_readClock_0 5 rfl rfl)
theorem dX2_readClock_6 : decode cX2_readClock 6 = .ok (.aload_n 0, 1) := dk_42 (dk_at dksX2_readClock_0 6 rfl rfl)
theorem dX2_readClock_7 : decode cX2_readClock 7 = .ok (.getfield 20, 3) := dk_180 0 20 (dk_at dksX2_readClock_0 7 rfl rfl)
theorem dX2_readClock_10 : decode cX2_readClock 10 = .ok (.iconst 4, 1) := dk_7 (dk_at dksX2_readClock_0 10 rfl rfl)
theorem dX2_readClock_11 : decode cX2_readClock 11 = .ok (.iaload, 1) := dk_46 (dk_at dksX2_readClock_0 11 rfl rfl)
theorem dX2_readClock_12 : decode cX2_readClock 12 = .ok (.iconst 1, 1) := dk_4 (dk_at dksX2_readClock_0 12 rfl rfl)
theorem dX2_readClock_13 : decode cX2_readClock 13 = .ok (.isub, 1) := dk_100 (dk_at dksX2_readClock_0 13 rfl rfl)
theorem dX2_readClock_14 : decode cX2_readClock 14 = .ok (.invokevirtual 130, 3) := dk_182 0 130 (dk_at dksX2_readClock_0 14 rfl rfl)
theorem dX2_readClock_17 : decode cX2_readClock 17 = .ok (.istore_n 1, 1) := dk_60 (dk_at dksX2_readClock_0 17 rfl rfl)
theorem dX2_readClock_18 : decode cX2_readClock 18 = .ok (.aload_n 0, 1) := dk_42 (dk_at dksX2_readClock_0 18 rfl rfl)
theorem dX2_readClock_19 : decode cX2_readClock 19 = .ok (.getfield 77, 3) := dk_180 0 77 (dk_at dksX2_readClock_0 19 rfl rfl)
theorem dX2_readClock_22 : decode cX2_readClock 22 = .ok (.ifCond .ne 20, 3) := dk_154 0 20 (dk_at dksX2_readClock_1 0 rfl rfl)
theorem dX2_readClock_25 : decode cX2_readClock 25 = .ok (.aload_n 0, 1) := dk_42 (dk_at dksX2_readClock_1 3 rfl rfl)
theorem dX2_readClock_26 : decode cX2_readClock 26 = .ok (.getfield 20, 3) := dk_180 0 20 (dk_at dksX2_readClock_1 4 rfl rfl)
theorem dX2_readClock_29 : decode cX2_readClock 29 = .ok (.bipush 83, 2) := dk_16 83 (dk_at dksX2_readClock_1 7 rfl rfl)
theorem dX2_readClock_31 : decode cX2_readClock 31 = .ok (.iload_n 1, 1) := dk_27 (dk_at dksX2_readClock_1 9 rfl rfl)
theorem dX2_readClock_32 : decode cX2_readClock 32 = .ok (.iadd, 1) := dk_96 (dk_at dksX2_readClock_1 10 rfl rfl)
theorem dX2_readClock_33 : decode cX2_readClock 33 = .ok (.iaload, 1) := dk_46 (dk_at dksX2_readClock_1 11 rfl rfl)
theorem dX2_readClock_34 : decode cX2_readClock 34 = .ok (.ifCond .le 8, 3) := dk_158 0 8 (dk_at dksX2_readClock_1 12 rfl rfl)
theorem dX2_readClock_37 : decode cX2_readClock 37 = .ok (.aload_n 0, 1) := dk_42 (dk_at dksX2_readClock_1 15 rfl rfl)
theorem dX2_readClock_38 : decode cX2_readClock 38 = .ok (.iconst 3, 1) := dk_6 (dk_at dksX2_readClock_1 16 rfl rfl)
theorem dX2_readClock_39 : decode cX2_readClock 39 = .ok (.invokevirtual 127, 3) := dk_182 0 127 (dk_at dksX2_readClock_1 17 rfl rfl)
theorem dX2_readClock_42 : decode cX2_readClock 42 = .ok (.aload_n 0, 1) := dk_42 (dk_at dksX2_readClock_1 20 rfl rfl)
theorem dX2_readClock_43 : decode cX2_readClock 43 = .ok (.invokevirtual 121, 3) := dk_182 0 121 (dk_at dksX2_readClock_1 21 rfl rfl)
theorem dX2_readClock_46 : decode cX2_readClock 46 = .ok (.aload_n 0, 1) := dk_42 (dk_at dksX2_readClock_2 0 rfl rfl)
theorem dX2_readClock_47 : decode cX2_readClock 47 = .ok (.iconst 1, 1) := dk_4 (dk_at dksX2_readClock_2 1 rfl rfl)
theorem dX2_readClock_48 : decode cX2_readClock 48 = .ok (.bipush 31, 2) := dk_16 31 (dk_at dksX2_readClock_2 2 rfl rfl)
theorem dX2_readClock_50 : decode cX2_readClock 50 = .ok (.invokevirtual 138, 3) := dk_182 0 138 (dk_at dksX2_readClock_2 4 rfl rfl)
theorem dX2_readClock_53 : decode cX2_readClock 53 = .ok (.istore_n 2, 1) := dk_61 (dk_at dksX2_readClock_2 7 rfl rfl)
theorem dX2_readClock_54 : decode cX2_readClock 54 = .ok (.aload_n 0, 1) := dk_42 (dk_at dksX2_readClock_2 8 rfl rfl)
theorem dX2_readClock_55 : decode cX2_readClock 55 = .ok (.getfield 77, 3) := dk_180 0 77 (dk_at dksX2_readClock_2 9 rfl rfl)
theorem dX2_readClock_58 : decode cX2_readClock 58 = .ok (.ifCond .ne 13, 3) := dk_154 0 13 (dk_at dksX2_readClock_2 12 rfl rfl)
theorem dX2_readClock_61 : decode cX2_readClock 61 = .ok (.aload_n 0, 1) := dk_42 (dk_at dksX2_readClock_2 15 rfl rfl)
theorem dX2_readClock_62 : decode cX2_readClock 62 = .ok (.getfield 20, 3) := dk_180 0 20 (dk_at dksX2_readClock_2 16 rfl rfl)
theorem dX2_readClock_65 : decode cX2_readClock 65 = .ok (.bipush 83, 2) := dk_16 83 (dk_at dksX2_readClock_2 19 rfl rfl)
theorem dX2_readClock_67 : decode cX2_readClock 67 = .ok (.iload_n 1, 1) := dk_27 (dk_at dksX2_readClock_2 21 rfl rfl)
theorem dX2_readClock_68 : decode cX2_readClock 68 = .ok (.iadd, 1) := dk_96 (dk_at dksX2_readClock_2 22 rfl rfl)
theorem dX2_readClock_69 : decode cX2_readClock 69 = .ok (.iload_n 2, 1) := dk_28 (dk_at dksX2_readClock_2 23 rfl rfl)
theorem dX2_readClock_70 : decode cX2_readClock 70 = .ok (.iastore, 1) := dk_79 (dk_at dksX2_readClock_3 0 rfl rfl)
theorem dX2_readClock_71 : decode cX2_readClock 71 = .ok (.return_, 1) := dk_177 (dk_at dksX2_readClock_3 1 rfl rfl)
abbrev cX2_readZone : ByteArray := prog_15_method_32_code
def yX2_readZone : MethodName := ⟨RX2, "readZone", "()V"⟩
def dkwX2_readZone_6 : List UInt8 := [180, 0, 20, 16, 101, 92, 46, 4, 96, 79, 177]
abbrev dktX2_readZone_6 : List UInt8 := dkwX2_readZone_6 ++ []
def dkwX2_readZone_5 : List UInt8 := [180, 0, 20, 21, 6, 5, 96, 21, 4, 79, 42, 180, 0, 20, 21, 6, 6, 96, 21, 5, 79, 42]
abbrev dktX2_readZone_5 : List UInt8 := dkwX2_readZone_5 ++ dktX2_readZone_6
def dkwX2_readZone_4 : List UInt8 := [27, 104, 96, 54, 6, 42, 180, 0, 20, 21, 6, 28, 79, 42, 180, 0, 20, 21, 6, 4, 96, 29, 79, 42]
abbrev dktX2_readZone_4 : List UInt8 := dkwX2_readZone_4 ++ dktX2_readZone_5
def dkwX2_readZone_3 : List UInt8 := [180, 0, 20, 16, 10, 46, 4, 100, 182, 0, 138, 54, 5, 42, 180, 0, 77, 158, 0, 4, 177, 16, 102, 7]
abbrev dktX2_readZone_3 : List UInt8 := dkwX2_readZone_3 ++ dktX2_readZone_4
def dkwX2_readZone_2 : List UInt8 := [182, 0, 138, 62, 42, 28, 42, 180, 0, 20, 16, 9, 46, 4, 100, 182, 0, 138, 54, 4, 42, 29, 42]
abbrev dktX2_readZone_2 : List UInt8 := dkwX2_readZone_2 ++ dktX2_readZone_3
def dkwX2_readZone_1 : List UInt8 := [42, 180, 0, 20, 16, 9, 46, 4, 100, 182, 0, 138, 61, 42, 3, 42, 180, 0, 20, 16, 10, 46, 4, 100]
abbrev dktX2_readZone_1 : List UInt8 := dkwX2_readZone_1 ++ dktX2_readZone_2
def dkwX2_readZone_0 : List UInt8 := [42, 180, 0, 20, 16, 101, 46, 60, 27, 7, 160, 0, 8, 42, 7, 182, 0, 127, 42, 182, 0, 121, 42, 3]
abbrev dktX2_readZone_0 : List UInt8 := dkwX2_readZone_0 ++ dktX2_readZone_1
theorem dksX2_readZone_0 : cX2_readZone.data.toList.drop 0 = dktX2_readZone_0 := by decide +kernel
theorem dksX2_readZone_1 : cX2_readZone.data.toList.drop 24 = dktX2_readZone_1 := dk_seg dksX2_readZone_0 24 rfl rfl
theorem dksX2_readZone_2 : cX2_readZone.data.toList.drop 48 = dktX2_readZone_2 := dk_seg dksX2_readZone_1 24 rfl rfl
theorem dksX2_readZone_3 : cX2_readZone.data.toList.drop 71 = dktX2_readZone_3 := dk_seg dksX2_readZone_2 23 rfl rfl
theorem dksX2_readZone_4 : cX2_readZone.data.toList.drop 95 = dktX2_readZone_4 := dk_seg dksX2_readZone_3 24 rfl rfl
theorem dksX2_readZone_5 : cX2_readZone.data.toList.drop 119 = dktX2_readZone_5 := dk_seg dksX2_readZone_4 24 rfl rfl
theorem dksX2_readZone_6 : cX2_readZone.data.toList.drop 141 = dktX2_readZone_6 := dk_seg dksX2_readZone_5 22 rfl rfl
theorem dX2_readZone_0 : decode cX2_readZone 0 = .ok (.aload_n 0, 1) := dk_42 (dk_at dksX2_readZone_0 0 rfl rfl)
theorem dX2_readZone_1 : decode cX2_readZone 1 = .ok (.getfield 20, 3) := dk_180 0 20 (dk_at dksX2_readZone_0 1 rfl rfl)
theorem dX2_readZone_4 : decode cX2_readZone 4 = .ok (.bipush 101, 2) := dk_16 101 (dk_at dksX2_readZone_0 4 rfl rfl)
theorem dX2_readZone_6 : decode cX2_readZone 6 = .ok (.iaload, 1) := dk_46 (dk_at dksX2_readZone_0 6 rfl rfl)
theorem dX2_readZone_7 : decode cX2_readZone 7 = .ok (.istore_n 1, 1) := dk_60 (dk_at dksX2_readZone_0 7 rfl rfl)
theorem dX2_readZone_8 : decode cX2_readZone 8 = .ok (.iload_n 1, 1) := dk_27 (dk_at dksX2_readZone_0 8 rfl rfl)
theorem dX2_readZone_9 : decode cX2_readZone 9 = .ok (.iconst 4, 1) := dk_7 (dk_at dksX2_readZone_0 9 rfl rfl)
theorem dX2_readZone_10 : decode cX2_readZone 10 = .ok (.if_icmp .ne 8, 3) := dk_160 0 8 (dk_at dksX2_readZone_0 10 rfl rfl)
theorem dX2_readZone_13 : decode cX2_readZone 13 = .ok (.aload_n 0, 1) := dk_42 (dk_at dksX2_readZone_0 13 rfl rfl)
theorem dX2_readZone_14 : decode cX2_readZone 14 = .ok (.iconst 4, 1) := dk_7 (dk_at dksX2_readZone_0 14 rfl rfl)
theorem dX2_readZone_15 : decode cX2_readZone 15 = .ok (.invokevirtual 127, 3) := dk_182 0 127 (dk_at dksX2_readZone_0 15 rfl rfl)
theorem dX2_readZone_18 : decode cX2_readZone 18 = .ok (.aload_n 0, 1) := dk_42 (dk_at dksX2_readZone_0 18 rfl rfl)
theorem dX2_readZone_19 : decode cX2_readZone 19 = .ok (.invokevirtual 121, 3) := dk_182 0 121 (dk_at dksX2_readZone_0 19 rfl rfl)
theorem dX2_readZone_22 : decode cX2_readZone 22 = .ok (.aload_n 0, 1) := dk_42 (dk_at dksX2_readZone_0 22 rfl rfl)
theorem dX2_readZone_23 : decode cX2_readZone 23 = .ok (.iconst 0, 1) := dk_3 (dk_at dksX2_readZone_0 23 rfl rfl)
theorem dX2_readZone_24 : decode cX2_readZone 24 = .ok (.aload_n 0, 1) := dk_42 (dk_at dksX2_readZone_1 0 rfl rfl)
theorem dX2_readZone_25 : decode cX2_readZone 25 = .ok (.getfield 20, 3) := dk_180 0 20 (dk_at dksX2_readZone_1 1 rfl rfl)
theorem dX2_readZone_28 : decode cX2_readZone 28 = .ok (.bipush 9, 2) := dk_16 9 (dk_at dksX2_readZone_1 4 rfl rfl)
theorem dX2_readZone_30 : decode cX2_readZone 30 = .ok (.iaload, 1) := dk_46 (dk_at dksX2_readZone_1 6 rfl rfl)
theorem dX2_readZone_31 : decode cX2_readZone 31 = .ok (.iconst 1, 1) := dk_4 (dk_at dksX2_readZone_1 7 rfl rfl)
theorem dX2_readZone_32 : decode cX2_readZone 32 = .ok (.isub, 1) := dk_100 (dk_at dksX2_readZone_1 8 rfl rfl)
theorem dX2_readZone_33 : decode cX2_readZone 33 = .ok (.invokevirtual 138, 3) := dk_182 0 138 (dk_at dksX2_readZone_1 9 rfl rfl)
theorem dX2_readZone_36 : decode cX2_readZone 36 = .ok (.istore_n 2, 1) := dk_61 (dk_at dksX2_readZone_1 12 rfl rfl)
theorem dX2_readZone_37 : decode cX2_readZone 37 = .ok (.aload_n 0, 1) := dk_42 (dk_at dksX2_readZone_1 13 rfl rfl)
theorem dX2_readZone_38 : decode cX2_readZone 38 = .ok (.iconst 0, 1) := dk_3 (dk_at dksX2_readZone_1 14 rfl rfl)
theorem dX2_readZone_39 : decode cX2_readZone 39 = .ok (.aload_n 0, 1) := dk_42 (dk_at dksX2_readZone_1 15 rfl rfl)
theorem dX2_readZone_40 : decode cX2_readZone 40 = .ok (.getfield 20, 3) := dk_180 0 20 (dk_at dksX2_readZone_1 16 rfl rfl)
theorem dX2_readZone_43 : decode cX2_readZone 43 = .ok (.bipush 10, 2) := dk_16 10 (dk_at dksX2_readZone_1 19 rfl rfl)
theorem dX2_readZone_45 : decode cX2_readZone 45 = .ok (.iaload, 1) := dk_46 (dk_at dksX2_readZone_1 21 rfl rfl)
theorem dX2_readZone_46 : decode cX2_readZone 46 = .ok (.iconst 1, 1) := dk_4 (dk_at dksX2_readZone_1 22 rfl rfl)
theorem dX2_readZone_47 : decode cX2_readZone 47 = .ok (.isub, 1) := dk_100 (dk_at dksX2_readZone_1 23 rfl rfl)
theorem dX2_readZone_48 : decode cX2_readZone 48 = .ok (.invokevirtual 138, 3) := dk_182 0 138 (dk_at dksX2_readZone_2 0 rfl rfl)
theorem dX2_readZone_51 : decode cX2_readZone 51 = .ok (.istore_n 3, 1) := dk_62 (dk_at dksX2_readZone_2 3 rfl rfl)
theorem dX2_readZone_52 : decode cX2_readZone 52 = .ok (.aload_n 0, 1) := dk_42 (dk_at dksX2_readZone_2 4 rfl rfl)
theorem dX2_readZone_53 : decode cX2_readZone 53 = .ok (.iload_n 2, 1) := dk_28 (dk_at dksX2_readZone_2 5 rfl rfl)
theorem dX2_readZone_54 : decode cX2_readZone 54 = .ok (.aload_n 0, 1) := dk_42 (dk_at dksX2_readZone_2 6 rfl rfl)
theorem dX2_readZone_55 : decode cX2_readZone 55 = .ok (.getfield 20, 3) := dk_180 0 20 (dk_at dksX2_readZone_2 7 rfl rfl)
theorem dX2_readZone_58 : decode cX2_readZone 58 = .ok (.bipush 9, 2) := dk_16 9 (dk_at dksX2_readZone_2 10 rfl rfl)
theorem dX2_readZone_60 : decode cX2_readZone 60 = .ok (.iaload, 1) := dk_46 (dk_at dksX2_readZone_2 12 rfl rfl)
theorem dX2_readZone_61 : decode cX2_readZone 61 = .ok (.iconst 1, 1) := dk_4 (dk_at dksX2_readZone_2 13 rfl rfl)
theorem dX2_readZone_62 : decode cX2_readZone 62 = .ok (.isub, 1) := dk_100 (dk_at dksX2_readZone_2 14 rfl rfl)
theorem dX2_readZone_63 : decode cX2_readZone 63 = .ok (.invokevirtual 138, 3) := dk_182 0 138 (dk_at dksX2_readZone_2 15 rfl rfl)
theorem dX2_readZone_66 : decode cX2_readZone 66 = .ok (.istore 4, 2) := dk_54 4 (dk_at dksX2_readZone_2 18 rfl rfl)
theorem dX2_readZone_68 : decode cX2_readZone 68 = .ok (.aload_n 0, 1) := dk_42 (dk_at dksX2_readZone_2 20 rfl rfl)
theorem dX2_readZone_69 : decode cX2_readZone 69 = .ok (.iload_n 3, 1) := dk_29 (dk_at dksX2_readZone_2 21 rfl rfl)
theorem dX2_readZone_70 : decode cX2_readZone 70 = .ok (.aload_n 0, 1) := dk_42 (dk_at dksX2_readZone_2 22 rfl rfl)
theorem dX2_readZone_71 : decode cX2_readZone 71 = .ok (.getfield 20, 3) := dk_180 0 20 (dk_at dksX2_readZone_3 0 rfl rfl)
theorem dX2_readZone_74 : decode cX2_readZone 74 = .ok (.bipush 10, 2) := dk_16 10 (dk_at dksX2_readZone_3 3 rfl rfl)
theorem dX2_readZone_76 : decode cX2_readZone 76 = .ok (.iaload, 1) := dk_46 (dk_at dksX2_readZone_3 5 rfl rfl)
theorem dX2_readZone_77 : decode cX2_readZone 77 = .ok (.iconst 1, 1) := dk_4 (dk_at dksX2_readZone_3 6 rfl rfl)
theorem dX2_readZone_78 : decode cX2_readZone 78 = .ok (.isub, 1) := dk_100 (dk_at dksX2_readZone_3 7 rfl rfl)
theorem dX2_readZone_79 : decode cX2_readZone 79 = .ok (.invokevirtual 138, 3) := dk_182 0 138 (dk_at dksX2_readZone_3 8 rfl rfl)
theorem dX2_readZone_82 : decode cX2_readZone 82 = .ok (.istore 5, 2) := dk_54 5 (dk_at dksX2_readZone_3 11 rfl rfl)
theorem dX2_readZone_84 : decode cX2_readZone 84 = .ok (.aload_n 0, 1) := dk_42 (dk_at dksX2_readZone_3 13 rfl rfl)
theorem dX2_readZone_85 : decode cX2_readZone 85 = .ok (.getfield 77, 3) := dk_180 0 77 (dk_at dksX2_readZone_3 14 rfl rfl)
theorem dX2_readZone_88 : decode cX2_readZone 88 = .ok (.ifCond .le 4, 3) := dk_158 0 4 (dk_at dksX2_readZone_3 17 rfl rfl)
theorem dX2_readZone_91 : decode cX2_readZone 91 = .ok (.return_, 1) := dk_177 (dk_at dksX2_readZone_3 20 rfl rfl)
theorem dX2_readZone_92 : decode cX2_readZone 92 = .ok (.bipush 102, 2) := dk_16 102 (dk_at dksX2_readZone_3 21 rfl rfl)
theorem dX2_readZone_94 : decode cX2_readZone 94 = .ok (.iconst 4, 1) := dk_7 (dk_at dksX2_readZone_3 23 rfl rfl)
theorem dX2_readZone_95 : decode cX2_readZone 95 = .ok (.iload_n 1, 1) := dk_27 (dk_at dksX2_readZone_4 0 rfl rfl)
theorem dX2_readZone_96 : decode cX2_readZone 96 = .ok (.imul, 1) := dk_104 (dk_at dksX2_readZone_4 1 rfl rfl)
theorem dX2_readZone_97 : decode cX2_readZone 97 = .ok (.iadd, 1) := dk_96 (dk_at dksX2_readZone_4 2 rfl rfl)
theorem dX2_readZone_98 : decode cX2_readZone 98 = .ok (.istore 6, 2) := dk_54 6 (dk_at dksX2_readZone_4 3 rfl rfl)
theorem dX2_readZone_100 : decode cX2_readZone 100 = .ok (.aload_n 0, 1) := dk_42 (dk_at dksX2_readZone_4 5 rfl rfl)
theorem dX2_readZone_101 : decode cX2_readZone 101 = .ok (.getfield 20, 3) := dk_180 0 20 (dk_at dksX2_readZone_4 6 rfl rfl)
theorem dX2_readZone_104 : decode cX2_readZone 104 = .ok (.iload 6, 2) := dk_21 6 (dk_at dksX2_readZone_4 9 rfl rfl)
theorem dX2_readZone_106 : decode cX2_readZone 106 = .ok (.iload_n 2, 1) := dk_28 (dk_at dksX2_readZone_4 11 rfl rfl)
theorem dX2_readZone_107 : decode cX2_readZone 107 = .ok (.iastore, 1) := dk_79 (dk_at dksX2_readZone_4 12 rfl rfl)
theorem dX2_readZone_108 : decode cX2_readZone 108 = .ok (.aload_n 0, 1) := dk_42 (dk_at dksX2_readZone_4 13 rfl rfl)
theorem dX2_readZone_109 : decode cX2_readZone 109 = .ok (.getfield 20, 3) := dk_180 0 20 (dk_at dksX2_readZone_4 14 rfl rfl)
theorem dX2_readZone_112 : decode cX2_readZone 112 = .ok (.iload 6, 2) := dk_21 6 (dk_at dksX2_readZone_4 17 rfl rfl)
theorem dX2_readZone_114 : decode cX2_readZone 114 = .ok (.iconst 1, 1) := dk_4 (dk_at dksX2_readZone_4 19 rfl rfl)
theorem dX2_readZone_115 : decode cX2_readZone 115 = .ok (.iadd, 1) := dk_96 (dk_at dksX2_readZone_4 20 rfl rfl)
theorem dX2_readZone_116 : decode cX2_readZone 116 = .ok (.iload_n 3, 1) := dk_29 (dk_at dksX2_readZone_4 21 rfl rfl)
theorem dX2_readZone_117 : decode cX2_readZone 117 = .ok (.iastore, 1) := dk_79 (dk_at dksX2_readZone_4 22 rfl rfl)
theorem dX2_readZone_118 : decode cX2_readZone 118 = .ok (.aload_n 0, 1) := dk_42 (dk_at dksX2_readZone_4 23 rfl rfl)
theorem dX2_readZone_119 : decode cX2_readZone 119 = .ok (.getfield 20, 3) := dk_180 0 20 (dk_at dksX2_readZone_5 0 rfl rfl)
theorem dX2_readZone_122 : decode cX2_readZone 122 = .ok (.iload 6, 2) := dk_21 6 (dk_at dksX2_readZone_5 3 rfl rfl)
theorem dX2_readZone_124 : decode cX2_readZone 124 = .ok (.iconst 2, 1) := dk_5 (dk_at dksX2_readZone_5 5 rfl rfl)
theorem dX2_readZone_125 : decode cX2_readZone 125 = .ok (.iadd, 1) := dk_96 (dk_at dksX2_readZone_5 6 rfl rfl)
theorem dX2_readZone_126 : decode cX2_readZone 126 = .ok (.iload 4, 2) := dk_21 4 (dk_at dksX2_readZone_5 7 rfl rfl)
theorem dX2_readZone_128 : decode cX2_readZone 128 = .ok (.iastore, 1) := dk_79 (dk_at dksX2_readZone_5 9 rfl rfl)
theorem dX2_readZone_129 : decode cX2_readZone 129 = .ok (.aload_n 0, 1) := dk_42 (dk_at dksX2_readZone_5 10 rfl rfl)
theorem dX2_readZone_130 : decode cX2_readZone 130 = .ok (.getfield 20, 3) := dk_180 0 20 (dk_at dksX2_readZone_5 11 rfl rfl)
theorem dX2_readZone_133 : decode cX2_readZone 133 = .ok (.iload 6, 2) := dk_21 6 (dk_at dksX2_readZone_5 14 rfl rfl)
theorem dX2_readZone_135 : decode cX2_readZone 135 = .ok (.iconst 3, 1) := dk_6 (dk_at dksX2_readZone_5 16 rfl rfl)
theorem dX2_readZone_136 : decode cX2_readZone 136 = .ok (.iadd, 1) := dk_96 (dk_at dksX2_readZone_5 17 rfl rfl)
theorem dX2_readZone_137 : decode cX2_readZone 137 = .ok (.iload 5, 2) := dk_21 5 (dk_at dksX2_readZone_5 18 rfl rfl)
theorem dX2_readZone_139 : decode cX2_readZone 139 = .ok (.iastore, 1) := dk_79 (dk_at dksX2_readZone_5 20 rfl rfl)
theorem dX2_readZone_140 : decode cX2_readZone 140 = .ok (.aload_n 0, 1) := dk_42 (dk_at dksX2_readZone_5 21 rfl rfl)
theorem dX2_readZone_141 : decode cX2_readZone 141 = .ok (.getfield 20, 3) := dk_180 0 20 (dk_at dksX2_readZone_6 0 rfl rfl)
theorem dX2_readZone_144 : decode cX2_readZone 144 = .ok (.bipush 101, 2) := dk_16 101 (dk_at dksX2_readZone_6 3 rfl rfl)
theorem dX2_readZone_146 : decode cX2_readZone 146 = .ok (.dup2, 1) := dk_92 (dk_at dksX2_readZone_6 5 rfl rfl)
theorem dX2_readZone_147 : decode cX2_readZone 147 = .ok (.iaload, 1) := dk_46 (dk_at dksX2_readZone_6 6 rfl rfl)
theorem dX2_readZone_148 : decode cX2_readZone 148 = .ok (.iconst 1, 1) := dk_4 (dk_at dksX2_readZone_6 7 rfl rfl)
theorem dX2_readZone_149 : decode cX2_readZone 149 = .ok (.iadd, 1) := dk_96 (dk_at dksX2_readZone_6 8 rfl rfl)
theorem dX2_readZone_150 : decode cX2_readZone 150 = .ok (.iastore, 1) := dk_79 (dk_at dksX2_readZone_6 9 rfl rfl)
theorem dX2_readZone_151 : decode cX2_readZone 151 = .ok (.return_, 1) := dk_177 (dk_at dksX2_readZone_6 10 rfl rfl)
abbrev cX2_readShade : ByteArray := prog_15_method_30_code
def yX2_readShade : MethodName := ⟨RX2, "readShade", "()V"⟩
def dkwX2_readShade_3 : List UInt8 := [96, 27, 79, 42, 180, 0, 20, 16, 118, 92, 46, 4, 96, 79, 42, 180, 0, 93, 6, 159, 255, 187, 177]
abbrev dktX2_readShade_3 : List UInt8 := dkwX2_readShade_3 ++ []
def dkwX2_readShade_2 : List UInt8 := [182, 0, 121, 42, 180, 0, 77, 158, 0, 4, 177, 42, 180, 0, 20, 16, 119, 42, 180, 0, 20, 16, 118, 46]
abbrev dktX2_readShade_2 : List UInt8 := dkwX2_readShade_2 ++ dktX2_readShade_3
def dkwX2_readShade_1 : List UInt8 := [182, 0, 130, 60, 42, 180, 0, 20, 16, 118, 46, 16, 12, 160, 0, 8, 42, 7, 182, 0, 127, 42]
abbrev dktX2_readShade_1 : List UInt8 := dkwX2_readShade_1 ++ dktX2_readShade_2
def dkwX2_readShade_0 : List UInt8 := [42, 180, 0, 20, 16, 118, 46, 158, 0, 8, 42, 6, 182, 0, 127, 42, 182, 0, 121, 42, 3, 16, 9]
abbrev dktX2_readShade_0 : List UInt8 := dkwX2_readShade_0 ++ dktX2_readShade_1
theorem dksX2_readShade_0 : cX2_readShade.data.toList.drop 0 = dktX2_readShade_0 := by decide +kernel
theorem dksX2_readShade_1 : cX2_readShade.data.toList.drop 23 = dktX2_readShade_1 := dk_seg dksX2_readShade_0 23 rfl rfl
theorem dksX2_readShade_2 : cX2_readShade.data.toList.drop 45 = dktX2_readShade_2 := dk_seg dksX2_readShade_1 22 rfl rfl
theorem dksX2_readShade_3 : cX2_readShade.data.toList.drop 69 = dktX2_readShade_3 := dk_seg dksX2_readShade_2 24 rfl rfl
theorem dX2_readShade_0 : decode cX2_readShade 0 = .ok (.aload_n 0, 1) := dk_42 (dk_at dksX2_readShade_0 0 rfl rfl)
theorem dX2_readShade_1 : decode cX2_readShade 1 = .ok (.getfield 20, 3) := dk_180 0 20 (dk_at dksX2_readShade_0 1 rfl rfl)
theorem dX2_readShade_4 : decode cX2_readShade 4 = .ok (.bipush 118, 2) := dk_16 118 (dk_at dksX2_readShade_0 4 rfl rfl)
theorem dX2_readShade_6 : decode cX2_readShade 6 = .ok (.iaload, 1) := dk_46 (dk_at dksX2_readShade_0 6 rfl rfl)
theorem dX2_readShade_7 : decode cX2_readShade 7 = .ok (.ifCond .le 8, 3) := dk_158 0 8 (dk_at dksX2_readShade_0 7 rfl rfl)
theorem dX2_readShade_10 : decode cX2_readShade 10 = .ok (.aload_n 0, 1) := dk_42 (dk_at dksX2_readShade_0 10 rfl rfl)
theorem dX2_readShade_11 : decode cX2_readShade 11 = .ok (.iconst 3, 1) := dk_6 (dk_at dksX2_readShade_0 11 rfl rfl)
theorem dX2_readShade_12 : decode cX2_readShade 12 = .ok (.invokevirtual 127, 3) := dk_182 0 127 (dk_at dksX2_readShade_0 12 rfl rfl)
theorem dX2_readShade_15 : decode cX2_readShade 15 = .ok (.aload_n 0, 1) := dk_42 (dk_at dksX2_readShade_0 15 rfl rfl)
theorem dX2_readShade_16 : decode cX2_readShade 16 = .ok (.invokevirtual 121, 3) := dk_182 0 121 (dk_at dksX2_readShade_0 16 rfl rfl)
theorem dX2_readShade_19 : decode cX2_readShade 19 = .ok (.aload_n 0, 1) := dk_42 (dk_at dksX2_readShade_0 19 rfl rfl)
theorem dX2_readShade_20 : decode cX2_readShade 20 = .ok (.iconst 0, 1) := dk_3 (dk_at dksX2_readShade_0 20 rfl rfl)
theorem dX2_readShade_21 : decode cX2_readShade 21 = .ok (.bipush 9, 2) := dk_16 9 (dk_at dksX2_readShade_0 21 rfl rfl)
theorem dX2_readShade_23 : decode cX2_readShade 23 = .ok (.invokevirtual 130, 3) := dk_182 0 130 (dk_at dksX2_readShade_1 0 rfl rfl)
theorem dX2_readShade_26 : decode cX2_readShade 26 = .ok (.istore_n 1, 1) := dk_60 (dk_at dksX2_readShade_1 3 rfl rfl)
theorem dX2_readShade_27 : decode cX2_readShade 27 = .ok (.aload_n 0, 1) := dk_42 (dk_at dksX2_readShade_1 4 rfl rfl)
theorem dX2_readShade_28 : decode cX2_readShade 28 = .ok (.getfield 20, 3) := dk_180 0 20 (dk_at dksX2_readShade_1 5 rfl rfl)
theorem dX2_readShade_31 : decode cX2_readShade 31 = .ok (.bipush 118, 2) := dk_16 118 (dk_at dksX2_readShade_1 8 rfl rfl)
theorem dX2_readShade_33 : decode cX2_readShade 33 = .ok (.iaload, 1) := dk_46 (dk_at dksX2_readShade_1 10 rfl rfl)
theorem dX2_readShade_34 : decode cX2_readShade 34 = .ok (.bipush 12, 2) := dk_16 12 (dk_at dksX2_readShade_1 11 rfl rfl)
theorem dX2_readShade_36 : decode cX2_readShade 36 = .ok (.if_icmp .ne 8, 3) := dk_160 0 8 (dk_at dksX2_readShade_1 13 rfl rfl)
theorem dX2_readShade_39 : decode cX2_readShade 39 = .ok (.aload_n 0, 1) := dk_42 (dk_at dksX2_readShade_1 16 rfl rfl)
theorem dX2_readShade_40 : decode cX2_readShade 40 = .ok (.iconst 4, 1) := dk_7 (dk_at dksX2_readShade_1 17 rfl rfl)
theorem dX2_readShade_41 : decode cX2_readShade 41 = .ok (.invokevirtual 127, 3) := dk_182 0 127 (dk_at dksX2_readShade_1 18 rfl rfl)
theorem dX2_readShade_44 : decode cX2_readShade 44 = .ok (.aload_n 0, 1) := dk_42 (dk_at dksX2_readShade_1 21 rfl rfl)
theorem dX2_readShade_45 : decode cX2_readShade 45 = .ok (.invokevirtual 121, 3) := dk_182 0 121 (dk_at dksX2_readShade_2 0 rfl rfl)
theorem dX2_readShade_48 : decode cX2_readShade 48 = .ok (.aload_n 0, 1) := dk_42 (dk_at dksX2_readShade_2 3 rfl rfl)
theorem dX2_readShade_49 : decode cX2_readShade 49 = .ok (.getfield 77, 3) := dk_180 0 77 (dk_at dksX2_readShade_2 4 rfl rfl)
theorem dX2_readShade_52 : decode cX2_readShade 52 = .ok (.ifCond .le 4, 3) := dk_158 0 4 (dk_at dksX2_readShade_2 7 rfl rfl)
theorem dX2_readShade_55 : decode cX2_readShade 55 = .ok (.return_, 1) := dk_177 (dk_at dksX2_readShade_2 10 rfl rfl)
theorem dX2_readShade_56 : decode cX2_readShade 56 = .ok (.aload_n 0, 1) := dk_42 (dk_at dksX2_readShade_2 11 rfl rfl)
theorem dX2_readShade_57 : decode cX2_readShade 57 = .ok (.getfield 20, 3) := dk_180 0 20 (dk_at dksX2_readShade_2 12 rfl rfl)
theorem dX2_readShade_60 : decode cX2_readShade 60 = .ok (.bipush 119, 2) := dk_16 119 (dk_at dksX2_readShade_2 15 rfl rfl)
theorem dX2_readShade_62 : decode cX2_readShade 62 = .ok (.aload_n 0, 1) := dk_42 (dk_at dksX2_readShade_2 17 rfl rfl)
theorem dX2_readShade_63 : decode cX2_readShade 63 = .ok (.getfield 20, 3) := dk_180 0 20 (dk_at dksX2_readShade_2 18 rfl rfl)
theorem dX2_readShade_66 : decode cX2_readShade 66 = .ok (.bipush 118, 2) := dk_16 118 (dk_at dksX2_readShade_2 21 rfl rfl)
theorem dX2_readShade_68 : decode cX2_readShade 68 = .ok (.iaload, 1) := dk_46 (dk_at dksX2_readShade_2 23 rfl rfl)
theorem dX2_readShade_69 : decode cX2_readShade 69 = .ok (.iadd, 1) := dk_96 (dk_at dksX2_readShade_3 0 rfl rfl)
theorem dX2_readShade_70 : decode cX2_readShade 70 = .ok (.iload_n 1, 1) := dk_27 (dk_at dksX2_readShade_3 1 rfl rfl)
theorem dX2_readShade_71 : decode cX2_readShade 71 = .ok (.iastore, 1) := dk_79 (dk_at dksX2_readShade_3 2 rfl rfl)
theorem dX2_readShade_72 : decode cX2_readShade 72 = .ok (.aload_n 0, 1) := dk_42 (dk_at dksX2_readShade_3 3 rfl rfl)
theorem dX2_readShade_73 : decode cX2_readShade 73 = .ok (.getfield 20, 3) := dk_180 0 20 (dk_at dksX2_readShade_3 4 rfl rfl)
theorem dX2_readShade_76 : decode cX2_readShade 76 = .ok (.bipush 118, 2) := dk_16 118 (dk_at dksX2_readShade_3 7 rfl rfl)
theorem dX2_readShade_78 : decode cX2_readShade 78 = .ok (.dup2, 1) := dk_92 (dk_at dksX2_readShade_3 9 rfl rfl)
theorem dX2_readShade_79 : decode cX2_readShade 79 = .ok (.iaload, 1) := dk_46 (dk_at dksX2_readShade_3 10 rfl rfl)
theorem dX2_readShade_80 : decode cX2_readShade 80 = .ok (.iconst 1, 1) := dk_4 (dk_at dksX2_readShade_3 11 rfl rfl)
theorem dX2_readShade_81 : decode cX2_readShade 81 = .ok (.iadd, 1) := dk_96 (dk_at dksX2_readShade_3 12 rfl rfl)
theorem dX2_readShade_82 : decode cX2_readShade 82 = .ok (.iastore, 1) := dk_79 (dk_at dksX2_readShade_3 13 rfl rfl)
theorem dX2_readShade_83 : decode cX2_readShade 83 = .ok (.aload_n 0, 1) := dk_42 (dk_at dksX2_readShade_3 14 rfl rfl)
theorem dX2_readShade_84 : decode cX2_readShade 84 = .ok (.getfield 93, 3) := dk_180 0 93 (dk_at dksX2_readShade_3 15 rfl rfl)
theorem dX2_readShade_87 : decode cX2_readShade 87 = .ok (.iconst 3, 1) := dk_6 (dk_at dksX2_readShade_3 18 rfl rfl)
theorem dX2_readShade_88 : decode cX2_readShade 88 = .ok (.if_icmp .eq (-69), 3) := dk_159 255 187 (dk_at dksX2_readShade_3 19 rfl rfl)
theorem dX2_readShade_91 : decode cX2_readShade 91 = .ok (.return_, 1) := dk_177 (dk_at dksX2_readShade_3 22 rfl rfl)
abbrev cX2_readOff : ByteArray := prog_15_method_31_code
def yX2_readOff : MethodName := ⟨RX2, "readOff", "()V"⟩
def dkwX2_readOff_2 : List UInt8 := [42, 180, 0, 77, 154, 0, 13, 42, 180, 0, 26, 16, 25, 27, 96, 3, 79, 177]
abbrev dktX2_readOff_2 : List UInt8 := dkwX2_readOff_2 ++ []
def dkwX2_readOff_1 : List UInt8 := [154, 0, 20, 42, 180, 0, 26, 16, 25, 27, 96, 46, 154, 0, 8, 42, 6, 182, 0, 127, 42, 182, 0, 121]
abbrev dktX2_readOff_1 : List UInt8 := dkwX2_readOff_1 ++ dktX2_readOff_2
def dkwX2_readOff_0 : List UInt8 := [42, 182, 0, 121, 42, 3, 42, 180, 0, 20, 8, 46, 4, 100, 182, 0, 130, 60, 42, 180, 0, 77]
abbrev dktX2_readOff_0 : List UInt8 := dkwX2_readOff_0 ++ dktX2_readOff_1
theorem dksX2_readOff_0 : cX2_readOff.data.toList.drop 0 = dktX2_readOff_0 := by decide +kernel
theorem dksX2_readOff_1 : cX2_readOff.data.toList.drop 22 = dktX2_readOff_1 := dk_seg dksX2_readOff_0 22 rfl rfl
theorem dksX2_readOff_2 : cX2_readOff.data.toList.drop 46 = dktX2_readOff_2 := dk_seg dksX2_readOff_1 24 rfl rfl
theorem dX2_readOff_0 : decode cX2_readOff 0 = .ok (.aload_n 0, 1) := dk_42 (dk_at dksX2_readOff_0 0 rfl rfl)
theorem dX2_readOff_1 : decode cX2_readOff 1 = .ok (.invokevirtual 121, 3) := dk_182 0 121 (dk_at dksX2_readOff_0 1 rfl rfl)
theorem dX2_readOff_4 : decode cX2_readOff 4 = .ok (.aload_n 0, 1) := dk_42 (dk_at dksX2_readOff_0 4 rfl rfl)
theorem dX2_readOff_5 : decode cX2_readOff 5 = .ok (.iconst 0, 1) := dk_3 (dk_at dksX2_readOff_0 5 rfl rfl)
theorem dX2_readOff_6 : decode cX2_readOff 6 = .ok (.aload_n 0, 1) := dk_42 (dk_at dksX2_readOff_0 6 rfl rfl)
theorem dX2_readOff_7 : decode cX2_readOff 7 = .ok (.getfield 20, 3) := dk_180 0 20 (dk_at dksX2_readOff_0 7 rfl rfl)
theorem dX2_readOff_10 : decode cX2_readOff 10 = .ok (.iconst 5, 1) := dk_8 (dk_at dksX2_readOff_0 10 rfl rfl)
theorem dX2_readOff_11 : decode cX2_readOff 11 = .ok (.iaload, 1) := dk_46 (dk_at dksX2_readOff_0 11 rfl rfl)
theorem dX2_readOff_12 : decode cX2_readOff 12 = .ok (.iconst 1, 1) := dk_4 (dk_at dksX2_readOff_0 12 rfl rfl)
theorem dX2_readOff_13 : decode cX2_readOff 13 = .ok (.isub, 1) := dk_100 (dk_at dksX2_readOff_0 13 rfl rfl)
theorem dX2_readOff_14 : decode cX2_readOff 14 = .ok (.invokevirtual 130, 3) := dk_182 0 130 (dk_at dksX2_readOff_0 14 rfl rfl)
theorem dX2_readOff_17 : decode cX2_readOff 17 = .ok (.istore_n 1, 1) := dk_60 (dk_at dksX2_readOff_0 17 rfl rfl)
theorem dX2_readOff_18 : decode cX2_readOff 18 = .ok (.aload_n 0, 1) := dk_42 (dk_at dksX2_readOff_0 18 rfl rfl)
theorem dX2_readOff_19 : decode cX2_readOff 19 = .ok (.getfield 77, 3) := dk_180 0 77 (dk_at dksX2_readOff_0 19 rfl rfl)
theorem dX2_readOff_22 : decode cX2_readOff 22 = .ok (.ifCond .ne 20, 3) := dk_154 0 20 (dk_at dksX2_readOff_1 0 rfl rfl)
theorem dX2_readOff_25 : decode cX2_readOff 25 = .ok (.aload_n 0, 1) := dk_42 (dk_at dksX2_readOff_1 3 rfl rfl)
theorem dX2_readOff_26 : decode cX2_readOff 26 = .ok (.getfield 26, 3) := dk_180 0 26 (dk_at dksX2_readOff_1 4 rfl rfl)
theorem dX2_readOff_29 : decode cX2_readOff 29 = .ok (.bipush 25, 2) := dk_16 25 (dk_at dksX2_readOff_1 7 rfl rfl)
theorem dX2_readOff_31 : decode cX2_readOff 31 = .ok (.iload_n 1, 1) := dk_27 (dk_at dksX2_readOff_1 9 rfl rfl)
theorem dX2_readOff_32 : decode cX2_readOff 32 = .ok (.iadd, 1) := dk_96 (dk_at dksX2_readOff_1 10 rfl rfl)
theorem dX2_readOff_33 : decode cX2_readOff 33 = .ok (.iaload, 1) := dk_46 (dk_at dksX2_readOff_1 11 rfl rfl)
theorem dX2_readOff_34 : decode cX2_readOff 34 = .ok (.ifCond .ne 8, 3) := dk_154 0 8 (dk_at dksX2_readOff_1 12 rfl rfl)
theorem dX2_readOff_37 : decode cX2_readOff 37 = .ok (.aload_n 0, 1) := dk_42 (dk_at dksX2_readOff_1 15 rfl rfl)
theorem dX2_readOff_38 : decode cX2_readOff 38 = .ok (.iconst 3, 1) := dk_6 (dk_at dksX2_readOff_1 16 rfl rfl)
theorem dX2_readOff_39 : decode cX2_readOff 39 = .ok (.invokevirtual 127, 3) := dk_182 0 127 (dk_at dksX2_readOff_1 17 rfl rfl)
theorem dX2_readOff_42 : decode cX2_readOff 42 = .ok (.aload_n 0, 1) := dk_42 (dk_at dksX2_readOff_1 20 rfl rfl)
theorem dX2_readOff_43 : decode cX2_readOff 43 = .ok (.invokevirtual 121, 3) := dk_182 0 121 (dk_at dksX2_readOff_1 21 rfl rfl)
theorem dX2_readOff_46 : decode cX2_readOff 46 = .ok (.aload_n 0, 1) := dk_42 (dk_at dksX2_readOff_2 0 rfl rfl)
theorem dX2_readOff_47 : decode cX2_readOff 47 = .ok (.getfield 77, 3) := dk_180 0 77 (dk_at dksX2_readOff_2 1 rfl rfl)
theorem dX2_readOff_50 : decode cX2_readOff 50 = .ok (.ifCond .ne 13, 3) := dk_154 0 13 (dk_at dksX2_readOff_2 4 rfl rfl)
theorem dX2_readOff_53 : decode cX2_readOff 53 = .ok (.aload_n 0, 1) := dk_42 (dk_at dksX2_readOff_2 7 rfl rfl)
theorem dX2_readOff_54 : decode cX2_readOff 54 = .ok (.getfield 26, 3) := dk_180 0 26 (dk_at dksX2_readOff_2 8 rfl rfl)
theorem dX2_readOff_57 : decode cX2_readOff 57 = .ok (.bipush 25, 2) := dk_16 25 (dk_at dksX2_readOff_2 11 rfl rfl)
theorem dX2_readOff_59 : decode cX2_readOff 59 = .ok (.iload_n 1, 1) := dk_27 (dk_at dksX2_readOff_2 13 rfl rfl)
theorem dX2_readOff_60 : decode cX2_readOff 60 = .ok (.iadd, 1) := dk_96 (dk_at dksX2_readOff_2 14 rfl rfl)
theorem dX2_readOff_61 : decode cX2_readOff 61 = .ok (.iconst 0, 1) := dk_3 (dk_at dksX2_readOff_2 15 rfl rfl)
theorem dX2_readOff_62 : decode cX2_readOff 62 = .ok (.iastore, 1) := dk_79 (dk_at dksX2_readOff_2 16 rfl rfl)
theorem dX2_readOff_63 : decode cX2_readOff 63 = .ok (.return_, 1) := dk_177 (dk_at dksX2_readOff_2 17 rfl rfl)
abbrev cX2_readMic : ByteArray := prog_15_method_23_code
def yX2_readMic : MethodName := ⟨RX2, "readMic", "()V"⟩
def dkwX2_readMic_4 : List UInt8 := [180, 0, 20, 7, 92, 46, 4, 96, 79, 177]
abbrev dktX2_readMic_4 : List UInt8 := dkwX2_readMic_4 ++ []
def dkwX2_readMic_3 : List UInt8 := [79, 42, 180, 0, 20, 16, 23, 27, 96, 29, 79, 42, 180, 0, 20, 16, 35, 27, 96, 21, 4, 79, 42]
abbrev dktX2_readMic_3 : List UInt8 := dkwX2_readMic_3 ++ dktX2_readMic_4
def dkwX2_readMic_2 : List UInt8 := [16, 9, 182, 0, 138, 54, 4, 42, 180, 0, 77, 158, 0, 4, 177, 42, 180, 0, 20, 16, 11, 27, 96, 28]
abbrev dktX2_readMic_2 : List UInt8 := dkwX2_readMic_2 ++ dktX2_readMic_3
def dkwX2_readMic_1 : List UInt8 := [17, 254, 12, 17, 1, 244, 182, 0, 158, 61, 42, 17, 254, 12, 17, 1, 244, 182, 0, 158, 62, 42, 4]
abbrev dktX2_readMic_1 : List UInt8 := dkwX2_readMic_1 ++ dktX2_readMic_2
def dkwX2_readMic_0 : List UInt8 := [42, 180, 0, 20, 7, 46, 60, 27, 16, 12, 160, 0, 8, 42, 7, 182, 0, 127, 42, 182, 0, 121, 42]
abbrev dktX2_readMic_0 : List UInt8 := dkwX2_readMic_0 ++ dktX2_readMic_1
theorem dksX2_readMic_0 : cX2_readMic.data.toList.drop 0 = dktX2_readMic_0 := by decide +kernel
theorem dksX2_readMic_1 : cX2_readMic.data.toList.drop 23 = dktX2_readMic_1 := dk_seg dksX2_readMic_0 23 rfl rfl
theorem dksX2_readMic_2 : cX2_readMic.data.toList.drop 46 = dktX2_readMic_2 := dk_seg dksX2_readMic_1 23 rfl rfl
theorem dksX2_readMic_3 : cX2_readMic.data.toList.drop 70 = dktX2_readMic_3 := dk_seg dksX2_readMic_2 24 rfl rfl
theorem dksX2_readMic_4 : cX2_readMic.data.toList.drop 93 = dktX2_readMic_4 := dk_seg dksX2_readMic_3 23 rfl rfl
theorem dX2_readMic_0 : decode cX2_readMic 0 = .ok (.aload_n 0, 1) := dk_42 (dk_at dksX2_readMic_0 0 rfl rfl)
theorem dX2_readMic_1 : decode cX2_readMic 1 = .ok (.getfield 20, 3) := dk_180 0 20 (dk_at dksX2_readMic_0 1 rfl rfl)
theorem dX2_readMic_4 : decode cX2_readMic 4 = .ok (.iconst 4, 1) := dk_7 (dk_at dksX2_readMic_0 4 rfl rfl)
theorem dX2_readMic_5 : decode cX2_readMic 5 = .ok (.iaload, 1) := dk_46 (dk_at dksX2_readMic_0 5 rfl rfl)
theorem dX2_readMic_6 : decode cX2_readMic 6 = .ok (.istore_n 1, 1) := dk_60 (dk_at dksX2_readMic_0 6 rfl rfl)
theorem dX2_readMic_7 : decode cX2_readMic 7 = .ok (.iload_n 1, 1) := dk_27 (dk_at dksX2_readMic_0 7 rfl rfl)
theorem dX2_readMic_8 : decode cX2_readMic 8 = .ok (.bipush 12, 2) := dk_16 12 (dk_at dksX2_readMic_0 8 rfl rfl)
theorem dX2_readMic_10 : decode cX2_readMic 10 = .ok (.if_icmp .ne 8, 3) := dk_160 0 8 (dk_at dksX2_readMic_0 10 rfl rfl)
theorem dX2_readMic_13 : decode cX2_readMic 13 = .ok (.aload_n 0, 1) := dk_42 (dk_at dksX2_readMic_0 13 rfl rfl)
theorem dX2_readMic_14 : decode cX2_readMic 14 = .ok (.iconst 4, 1) := dk_7 (dk_at dksX2_readMic_0 14 rfl rfl)
theorem dX2_readMic_15 : decode cX2_readMic 15 = .ok (.invokevirtual 127, 3) := dk_182 0 127 (dk_at dksX2_readMic_0 15 rfl rfl)
theorem dX2_readMic_18 : decode cX2_readMic 18 = .ok (.aload_n 0, 1) := dk_42 (dk_at dksX2_readMic_0 18 rfl rfl)
theorem dX2_readMic_19 : decode cX2_readMic 19 = .ok (.invokevirtual 121, 3) := dk_182 0 121 (dk_at dksX2_readMic_0 19 rfl rfl)
theorem dX2_readMic_22 : decode cX2_readMic 22 = .ok (.aload_n 0, 1) := dk_42 (dk_at dksX2_readMic_0 22 rfl rfl)
theorem dX2_readMic_23 : decode cX2_readMic 23 = .ok (.sipush (-500), 3) := dk_17 254 12 (dk_at dksX2_readMic_1 0 rfl rfl)
theorem dX2_readMic_26 : decode cX2_readMic 26 = .ok (.sipush 500, 3) := dk_17 1 244 (dk_at dksX2_readMic_1 3 rfl rfl)
theorem dX2_readMic_29 : decode cX2_readMic 29 = .ok (.invokevirtual 158, 3) := dk_182 0 158 (dk_at dksX2_readMic_1 6 rfl rfl)
theorem dX2_readMic_32 : decode cX2_readMic 32 = .ok (.istore_n 2, 1) := dk_61 (dk_at dksX2_readMic_1 9 rfl rfl)
theorem dX2_readMic_33 : decode cX2_readMic 33 = .ok (.aload_n 0, 1) := dk_42 (dk_at dksX2_readMic_1 10 rfl rfl)
theorem dX2_readMic_34 : decode cX2_readMic 34 = .ok (.sipush (-500), 3) := dk_17 254 12 (dk_at dksX2_readMic_1 11 rfl rfl)
theorem dX2_readMic_37 : decode cX2_readMic 37 = .ok (.sipush 500, 3) := dk_17 1 244 (dk_at dksX2_readMic_1 14 rfl rfl)
theorem dX2_readMic_40 : decode cX2_readMic 40 = .ok (.invokevirtual 158, 3) := dk_182 0 158 (dk_at dksX2_readMic_1 17 rfl rfl)
theorem dX2_readMic_43 : decode cX2_readMic 43 = .ok (.istore_n 3, 1) := dk_62 (dk_at dksX2_readMic_1 20 rfl rfl)
theorem dX2_readMic_44 : decode cX2_readMic 44 = .ok (.aload_n 0, 1) := dk_42 (dk_at dksX2_readMic_1 21 rfl rfl)
theorem dX2_readMic_45 : decode cX2_readMic 45 = .ok (.iconst 1, 1) := dk_4 (dk_at dksX2_readMic_1 22 rfl rfl)
theorem dX2_readMic_46 : decode cX2_readMic 46 = .ok (.bipush 9, 2) := dk_16 9 (dk_at dksX2_readMic_2 0 rfl rfl)
theorem dX2_readMic_48 : decode cX2_readMic 48 = .ok (.invokevirtual 138, 3) := dk_182 0 138 (dk_at dksX2_readMic_2 2 rfl rfl)
theorem dX2_readMic_51 : decode cX2_readMic 51 = .ok (.istore 4, 2) := dk_54 4 (dk_at dksX2_readMic_2 5 rfl rfl)
theorem dX2_readMic_53 : decode cX2_readMic 53 = .ok (.aload_n 0, 1) := dk_42 (dk_at dksX2_readMic_2 7 rfl rfl)
theorem dX2_readMic_54 : decode cX2_readMic 54 = .ok (.getfield 77, 3) := dk_180 0 77 (dk_at dksX2_readMic_2 8 rfl rfl)
theorem dX2_readMic_57 : decode cX2_readMic 57 = .ok (.ifCond .le 4, 3) := dk_158 0 4 (dk_at dksX2_readMic_2 11 rfl rfl)
theorem dX2_readMic_60 : decode cX2_readMic 60 = .ok (.return_, 1) := dk_177 (dk_at dksX2_readMic_2 14 rfl rfl)
theorem dX2_readMic_61 : decode cX2_readMic 61 = .ok (.aload_n 0, 1) := dk_42 (dk_at dksX2_readMic_2 15 rfl rfl)
theorem dX2_readMic_62 : decode cX2_readMic 62 = .ok (.getfield 20, 3) := dk_180 0 20 (dk_at dksX2_readMic_2 16 rfl rfl)
theorem dX2_readMic_65 : decode cX2_readMic 65 = .ok (.bipush 11, 2) := dk_16 11 (dk_at dksX2_readMic_2 19 rfl rfl)
theorem dX2_readMic_67 : decode cX2_readMic 67 = .ok (.iload_n 1, 1) := dk_27 (dk_at dksX2_readMic_2 21 rfl rfl)
theorem dX2_readMic_68 : decode cX2_readMic 68 = .ok (.iadd, 1) := dk_96 (dk_at dksX2_readMic_2 22 rfl rfl)
theorem dX2_readMic_69 : decode cX2_readMic 69 = .ok (.iload_n 2, 1) := dk_28 (dk_at dksX2_readMic_2 23 rfl rfl)
theorem dX2_readMic_70 : decode cX2_readMic 70 = .ok (.iastore, 1) := dk_79 (dk_at dksX2_readMic_3 0 rfl rfl)
theorem dX2_readMic_71 : decode cX2_readMic 71 = .ok (.aload_n 0, 1) := dk_42 (dk_at dksX2_readMic_3 1 rfl rfl)
theorem dX2_readMic_72 : decode cX2_readMic 72 = .ok (.getfield 20, 3) := dk_180 0 20 (dk_at dksX2_readMic_3 2 rfl rfl)
theorem dX2_readMic_75 : decode cX2_readMic 75 = .ok (.bipush 23, 2) := dk_16 23 (dk_at dksX2_readMic_3 5 rfl rfl)
theorem dX2_readMic_77 : decode cX2_readMic 77 = .ok (.iload_n 1, 1) := dk_27 (dk_at dksX2_readMic_3 7 rfl rfl)
theorem dX2_readMic_78 : decode cX2_readMic 78 = .ok (.iadd, 1) := dk_96 (dk_at dksX2_readMic_3 8 rfl rfl)
theorem dX2_readMic_79 : decode cX2_readMic 79 = .ok (.iload_n 3, 1) := dk_29 (dk_at dksX2_readMic_3 9 rfl rfl)
theorem dX2_readMic_80 : decode cX2_readMic 80 = .ok (.iastore, 1) := dk_79 (dk_at dksX2_readMic_3 10 rfl rfl)
theorem dX2_readMic_81 : decode cX2_readMic 81 = .ok (.aload_n 0, 1) := dk_42 (dk_at dksX2_readMic_3 11 rfl rfl)
theorem dX2_readMic_82 : decode cX2_readMic 82 = .ok (.getfield 20, 3) := dk_180 0 20 (dk_at dksX2_readMic_3 12 rfl rfl)
theorem dX2_readMic_85 : decode cX2_readMic 85 = .ok (.bipush 35, 2) := dk_16 35 (dk_at dksX2_readMic_3 15 rfl rfl)
theorem dX2_readMic_87 : decode cX2_readMic 87 = .ok (.iload_n 1, 1) := dk_27 (dk_at dksX2_readMic_3 17 rfl rfl)
theorem dX2_readMic_88 : decode cX2_readMic 88 = .ok (.iadd, 1) := dk_96 (dk_at dksX2_readMic_3 18 rfl rfl)
theorem dX2_readMic_89 : decode cX2_readMic 89 = .ok (.iload 4, 2) := dk_21 4 (dk_at dksX2_readMic_3 19 rfl rfl)
theorem dX2_readMic_91 : decode cX2_readMic 91 = .ok (.iastore, 1) := dk_79 (dk_at dksX2_readMic_3 21 rfl rfl)
theorem dX2_readMic_92 : decode cX2_readMic 92 = .ok (.aload_n 0, 1) := dk_42 (dk_at dksX2_readMic_3 22 rfl rfl)
theorem dX2_readMic_93 : decode cX2_readMic 93 = .ok (.getfield 20, 3) := dk_180 0 20 (dk_at dksX2_readMic_4 0 rfl rfl)
theorem dX2_readMic_96 : decode cX2_readMic 96 = .ok (.iconst 4, 1) := dk_7 (dk_at dksX2_readMic_4 3 rfl rfl)
theorem dX2_readMic_97 : decode cX2_readMic 97 = .ok (.dup2, 1) := dk_92 (dk_at dksX2_readMic_4 4 rfl rfl)
theorem dX2_readMic_98 : decode cX2_readMic 98 = .ok (.iaload, 1) := dk_46 (dk_at dksX2_readMic_4 5 rfl rfl)
theorem dX2_readMic_99 : decode cX2_readMic 99 = .ok (.iconst 1, 1) := dk_4 (dk_at dksX2_readMic_4 6 rfl rfl)
theorem dX2_readMic_100 : decode cX2_readMic 100 = .ok (.iadd, 1) := dk_96 (dk_at dksX2_readMic_4 7 rfl rfl)
theorem dX2_readMic_101 : decode cX2_readMic 101 = .ok (.iastore, 1) := dk_79 (dk_at dksX2_readMic_4 8 rfl rfl)
theorem dX2_readMic_102 : decode cX2_readMic 102 = .ok (.return_, 1) := dk_177 (dk_at dksX2_readMic_4 9 rfl rfl)
abbrev cX2_readMap : ByteArray := prog_15_method_24_code
def yX2_readMap : MethodName := ⟨RX2, "readMap", "()V"⟩
def dkwX2_readMap_5 : List UInt8 := [79, 177]
abbrev dktX2_readMap_5 : List UInt8 := dkwX2_readMap_5 ++ []
def dkwX2_readMap_4 : List UInt8 := [180, 0, 20, 16, 8, 29, 79, 42, 180, 0, 20, 16, 9, 21, 4, 79, 42, 180, 0, 20, 16, 10, 21, 5]
abbrev dktX2_readMap_4 : List UInt8 := dkwX2_readMap_4 ++ dktX2_readMap_5
def dkwX2_readMap_3 : List UInt8 := [180, 0, 77, 158, 0, 4, 177, 42, 180, 0, 20, 16, 6, 27, 79, 42, 180, 0, 20, 16, 7, 28, 79, 42]
abbrev dktX2_readMap_3 : List UInt8 := dkwX2_readMap_3 ++ dktX2_readMap_4
def dkwX2_readMap_2 : List UInt8 := [182, 0, 138, 62, 42, 4, 16, 12, 182, 0, 138, 54, 4, 42, 4, 16, 12, 182, 0, 138, 54, 5, 42]
abbrev dktX2_readMap_2 : List UInt8 := dkwX2_readMap_2 ++ dktX2_readMap_3
def dkwX2_readMap_1 : List UInt8 := [17, 3, 231, 182, 0, 158, 60, 42, 17, 252, 25, 17, 3, 231, 182, 0, 158, 61, 42, 4, 16, 99]
abbrev dktX2_readMap_1 : List UInt8 := dkwX2_readMap_1 ++ dktX2_readMap_2
def dkwX2_readMap_0 : List UInt8 := [42, 180, 0, 20, 16, 8, 46, 158, 0, 8, 42, 6, 182, 0, 127, 42, 182, 0, 121, 42, 17, 252, 25]
abbrev dktX2_readMap_0 : List UInt8 := dkwX2_readMap_0 ++ dktX2_readMap_1
theorem dksX2_readMap_0 : cX2_readMap.data.toList.drop 0 = dktX2_readMap_0 := by decide +kernel
theorem dksX2_readMap_1 : cX2_readMap.data.toList.drop 23 = dktX2_readMap_1 := dk_seg dksX2_readMap_0 23 rfl rfl
theorem dksX2_readMap_2 : cX2_readMap.data.toList.drop 45 = dktX2_readMap_2 := dk_seg dksX2_readMap_1 22 rfl rfl
theorem dksX2_readMap_3 : cX2_readMap.data.toList.drop 68 = dktX2_readMap_3 := dk_seg dksX2_readMap_2 23 rfl rfl
theorem dksX2_readMap_4 : cX2_readMap.data.toList.drop 92 = dktX2_readMap_4 := dk_seg dksX2_readMap_3 24 rfl rfl
theorem dksX2_readMap_5 : cX2_readMap.data.toList.drop 116 = dktX2_readMap_5 := dk_seg dksX2_readMap_4 24 rfl rfl
theorem dX2_readMap_0 : decode cX2_readMap 0 = .ok (.aload_n 0, 1) := dk_42 (dk_at dksX2_readMap_0 0 rfl rfl)
theorem dX2_readMap_1 : decode cX2_readMap 1 = .ok (.getfield 20, 3) := dk_180 0 20 (dk_at dksX2_readMap_0 1 rfl rfl)
theorem dX2_readMap_4 : decode cX2_readMap 4 = .ok (.bipush 8, 2) := dk_16 8 (dk_at dksX2_readMap_0 4 rfl rfl)
theorem dX2_readMap_6 : decode cX2_readMap 6 = .ok (.iaload, 1) := dk_46 (dk_at dksX2_readMap_0 6 rfl rfl)
theorem dX2_readMap_7 : decode cX2_readMap 7 = .ok (.ifCond .le 8, 3) := dk_158 0 8 (dk_at dksX2_readMap_0 7 rfl rfl)
theorem dX2_readMap_10 : decode cX2_readMap 10 = .ok (.aload_n 0, 1) := dk_42 (dk_at dksX2_readMap_0 10 rfl rfl)
theorem dX2_readMap_11 : decode cX2_readMap 11 = .ok (.iconst 3, 1) := dk_6 (dk_at dksX2_readMap_0 11 rfl rfl)
theorem dX2_readMap_12 : decode cX2_readMap 12 = .ok (.invokevirtual 127, 3) := dk_182 0 127 (dk_at dksX2_readMap_0 12 rfl rfl)
theorem dX2_readMap_15 : decode cX2_readMap 15 = .ok (.aload_n 0, 1) := dk_42 (dk_at dksX2_readMap_0 15 rfl rfl)
theorem dX2_readMap_16 : decode cX2_readMap 16 = .ok (.invokevirtual 121, 3) := dk_182 0 121 (dk_at dksX2_readMap_0 16 rfl rfl)
theorem dX2_readMap_19 : decode cX2_readMap 19 = .ok (.aload_n 0, 1) := dk_42 (dk_at dksX2_readMap_0 19 rfl rfl)
theorem dX2_readMap_20 : decode cX2_readMap 20 = .ok (.sipush (-999), 3) := dk_17 252 25 (dk_at dksX2_readMap_0 20 rfl rfl)
theorem dX2_readMap_23 : decode cX2_readMap 23 = .ok (.sipush 999, 3) := dk_17 3 231 (dk_at dksX2_readMap_1 0 rfl rfl)
theorem dX2_readMap_26 : decode cX2_readMap 26 = .ok (.invokevirtual 158, 3) := dk_182 0 158 (dk_at dksX2_readMap_1 3 rfl rfl)
theorem dX2_readMap_29 : decode cX2_readMap 29 = .ok (.istore_n 1, 1) := dk_60 (dk_at dksX2_readMap_1 6 rfl rfl)
theorem dX2_readMap_30 : decode cX2_readMap 30 = .ok (.aload_n 0, 1) := dk_42 (dk_at dksX2_readMap_1 7 rfl rfl)
theorem dX2_readMap_31 : decode cX2_readMap 31 = .ok (.sipush (-999), 3) := dk_17 252 25 (dk_at dksX2_readMap_1 8 rfl rfl)
theorem dX2_readMap_34 : decode cX2_readMap 34 = .ok (.sipush 999, 3) := dk_17 3 231 (dk_at dksX2_readMap_1 11 rfl rfl)
theorem dX2_readMap_37 : decode cX2_readMap 37 = .ok (.invokevirtual 158, 3) := dk_182 0 158 (dk_at dksX2_readMap_1 14 rfl rfl)
theorem dX2_readMap_40 : decode cX2_readMap 40 = .ok (.istore_n 2, 1) := dk_61 (dk_at dksX2_readMap_1 17 rfl rfl)
theorem dX2_readMap_41 : decode cX2_readMap 41 = .ok (.aload_n 0, 1) := dk_42 (dk_at dksX2_readMap_1 18 rfl rfl)
theorem dX2_readMap_42 : decode cX2_readMap 42 = .ok (.iconst 1, 1) := dk_4 (dk_at dksX2_readMap_1 19 rfl rfl)
theorem dX2_readMap_43 : decode cX2_readMap 43 = .ok (.bipush 99, 2) := dk_16 99 (dk_at dksX2_readMap_1 20 rfl rfl)
theorem dX2_readMap_45 : decode cX2_readMap 45 = .ok (.invokevirtual 138, 3) := dk_182 0 138 (dk_at dksX2_readMap_2 0 rfl rfl)
theorem dX2_readMap_48 : decode cX2_readMap 48 = .ok (.istore_n 3, 1) := dk_62 (dk_at dksX2_readMap_2 3 rfl rfl)
theorem dX2_readMap_49 : decode cX2_readMap 49 = .ok (.aload_n 0, 1) := dk_42 (dk_at dksX2_readMap_2 4 rfl rfl)
theorem dX2_readMap_50 : decode cX2_readMap 50 = .ok (.iconst 1, 1) := dk_4 (dk_at dksX2_readMap_2 5 rfl rfl)
theorem dX2_readMap_51 : decode cX2_readMap 51 = .ok (.bipush 12, 2) := dk_16 12 (dk_at dksX2_readMap_2 6 rfl rfl)
theorem dX2_readMap_53 : decode cX2_readMap 53 = .ok (.invokevirtual 138, 3) := dk_182 0 138 (dk_at dksX2_readMap_2 8 rfl rfl)
theorem dX2_readMap_56 : decode cX2_readMap 56 = .ok (.istore 4, 2) := dk_54 4 (dk_at dksX2_readMap_2 11 rfl rfl)
theorem dX2_readMap_58 : decode cX2_readMap 58 = .ok (.aload_n 0, 1) := dk_42 (dk_at dksX2_readMap_2 13 rfl rfl)
theorem dX2_readMap_59 : decode cX2_readMap 59 = .ok (.iconst 1, 1) := dk_4 (dk_at dksX2_readMap_2 14 rfl rfl)
theorem dX2_readMap_60 : decode cX2_readMap 60 = .ok (.bipush 12, 2) := dk_16 12 (dk_at dksX2_readMap_2 15 rfl rfl)
theorem dX2_readMap_62 : decode cX2_readMap 62 = .ok (.invokevirtual 138, 3) := dk_182 0 138 (dk_at dksX2_readMap_2 17 rfl rfl)
theorem dX2_readMap_65 : decode cX2_readMap 65 = .ok (.istore 5, 2) := dk_54 5 (dk_at dksX2_readMap_2 20 rfl rfl)
theorem dX2_readMap_67 : decode cX2_readMap 67 = .ok (.aload_n 0, 1) := dk_42 (dk_at dksX2_readMap_2 22 rfl rfl)
theorem dX2_readMap_68 : decode cX2_readMap 68 = .ok (.getfield 77, 3) := dk_180 0 77 (dk_at dksX2_readMap_3 0 rfl rfl)
theorem dX2_readMap_71 : decode cX2_readMap 71 = .ok (.ifCond .le 4, 3) := dk_158 0 4 (dk_at dksX2_readMap_3 3 rfl rfl)
theorem dX2_readMap_74 : decode cX2_readMap 74 = .ok (.return_, 1) := dk_177 (dk_at dksX2_readMap_3 6 rfl rfl)
theorem dX2_readMap_75 : decode cX2_readMap 75 = .ok (.aload_n 0, 1) := dk_42 (dk_at dksX2_readMap_3 7 rfl rfl)
theorem dX2_readMap_76 : decode cX2_readMap 76 = .ok (.getfield 20, 3) := dk_180 0 20 (dk_at dksX2_readMap_3 8 rfl rfl)
theorem dX2_readMap_79 : decode cX2_readMap 79 = .ok (.bipush 6, 2) := dk_16 6 (dk_at dksX2_readMap_3 11 rfl rfl)
theorem dX2_readMap_81 : decode cX2_readMap 81 = .ok (.iload_n 1, 1) := dk_27 (dk_at dksX2_readMap_3 13 rfl rfl)
theorem dX2_readMap_82 : decode cX2_readMap 82 = .ok (.iastore, 1) := dk_79 (dk_at dksX2_readMap_3 14 rfl rfl)
theorem dX2_readMap_83 : decode cX2_readMap 83 = .ok (.aload_n 0, 1) := dk_42 (dk_at dksX2_readMap_3 15 rfl rfl)
theorem dX2_readMap_84 : decode cX2_readMap 84 = .ok (.getfield 20, 3) := dk_180 0 20 (dk_at dksX2_readMap_3 16 rfl rfl)
theorem dX2_readMap_87 : decode cX2_readMap 87 = .ok (.bipush 7, 2) := dk_16 7 (dk_at dksX2_readMap_3 19 rfl rfl)
theorem dX2_readMap_89 : decode cX2_readMap 89 = .ok (.iload_n 2, 1) := dk_28 (dk_at dksX2_readMap_3 21 rfl rfl)
theorem dX2_readMap_90 : decode cX2_readMap 90 = .ok (.iastore, 1) := dk_79 (dk_at dksX2_readMap_3 22 rfl rfl)
theorem dX2_readMap_91 : decode cX2_readMap 91 = .ok (.aload_n 0, 1) := dk_42 (dk_at dksX2_readMap_3 23 rfl rfl)
theorem dX2_readMap_92 : decode cX2_readMap 92 = .ok (.getfield 20, 3) := dk_180 0 20 (dk_at dksX2_readMap_4 0 rfl rfl)
theorem dX2_readMap_95 : decode cX2_readMap 95 = .ok (.bipush 8, 2) := dk_16 8 (dk_at dksX2_readMap_4 3 rfl rfl)
theorem dX2_readMap_97 : decode cX2_readMap 97 = .ok (.iload_n 3, 1) := dk_29 (dk_at dksX2_readMap_4 5 rfl rfl)
theorem dX2_readMap_98 : decode cX2_readMap 98 = .ok (.iastore, 1) := dk_79 (dk_at dksX2_readMap_4 6 rfl rfl)
theorem dX2_readMap_99 : decode cX2_readMap 99 = .ok (.aload_n 0, 1) := dk_42 (dk_at dksX2_readMap_4 7 rfl rfl)
theorem dX2_readMap_100 : decode cX2_readMap 100 = .ok (.getfield 20, 3) := dk_180 0 20 (dk_at dksX2_readMap_4 8 rfl rfl)
theorem dX2_readMap_103 : decode cX2_readMap 103 = .ok (.bipush 9, 2) := dk_16 9 (dk_at dksX2_readMap_4 11 rfl rfl)
theorem dX2_readMap_105 : decode cX2_readMap 105 = .ok (.iload 4, 2) := dk_21 4 (dk_at dksX2_readMap_4 13 rfl rfl)
theorem dX2_readMap_107 : decode cX2_readMap 107 = .ok (.iastore, 1) := dk_79 (dk_at dksX2_readMap_4 15 rfl rfl)
theorem dX2_readMap_108 : decode cX2_readMap 108 = .ok (.aload_n 0, 1) := dk_42 (dk_at dksX2_readMap_4 16 rfl rfl)
theorem dX2_readMap_109 : decode cX2_readMap 109 = .ok (.getfield 20, 3) := dk_180 0 20 (dk_at dksX2_readMap_4 17 rfl rfl)
theorem dX2_readMap_112 : decode cX2_readMap 112 = .ok (.bipush 10, 2) := dk_16 10 (dk_at dksX2_readMap_4 20 rfl rfl)
theorem dX2_readMap_114 : decode cX2_readMap 114 = .ok (.iload 5, 2) := dk_21 5 (dk_at dksX2_readMap_4 22 rfl rfl)
theorem dX2_readMap_116 : decode cX2_readMap 116 = .ok (.iastore, 1) := dk_79 (dk_at dksX2_readMap_5 0 rfl rfl)
theorem dX2_readMap_117 : decode cX2_readMap 117 = .ok (.return_, 1) := dk_177 (dk_at dksX2_readMap_5 1 rfl rfl)
abbrev cX2_readSource : ByteArray := prog_15_method_25_code
def yX2_readSource : MethodName := ⟨RX2, "readSource", "()V"⟩
def dkwX2_readSource_13 : List UInt8 := [27, 96, 21, 9, 79, 42, 180, 0, 20, 8, 92, 46, 4, 96, 79, 177]
abbrev dktX2_readSource_13 : List UInt8 := dkwX2_readSource_13 ++ []
def dkwX2_readSource_12 : List UInt8 := [16, 53, 27, 96, 21, 7, 79, 42, 180, 0, 20, 16, 59, 27, 96, 21, 8, 79, 42, 180, 0, 20, 16, 65]
abbrev dktX2_readSource_12 : List UInt8 := dkwX2_readSource_12 ++ dktX2_readSource_13
def dkwX2_readSource_11 : List UInt8 := [180, 0, 26, 16, 49, 27, 96, 21, 6, 79, 42, 180, 0, 20, 16, 47, 27, 96, 28, 79, 42, 180, 0, 20]
abbrev dktX2_readSource_11 : List UInt8 := dkwX2_readSource_11 ++ dktX2_readSource_12
def dkwX2_readSource_10 : List UInt8 := [180, 0, 26, 16, 37, 27, 96, 21, 4, 79, 42, 180, 0, 26, 16, 43, 27, 96, 21, 5, 79, 42]
abbrev dktX2_readSource_10 : List UInt8 := dkwX2_readSource_10 ++ dktX2_readSource_11
def dkwX2_readSource_9 : List UInt8 := [79, 42, 180, 0, 26, 16, 25, 27, 96, 4, 79, 42, 180, 0, 26, 16, 31, 27, 96, 29, 79, 42]
abbrev dktX2_readSource_9 : List UInt8 := dkwX2_readSource_9 ++ dktX2_readSource_10
def dkwX2_readSource_8 : List UInt8 := [167, 0, 4, 3, 54, 10, 42, 180, 0, 77, 158, 0, 4, 177, 42, 180, 0, 20, 16, 95, 27, 96, 21, 10]
abbrev dktX2_readSource_8 : List UInt8 := dkwX2_readSource_8 ++ dktX2_readSource_9
def dkwX2_readSource_7 : List UInt8 := [182, 0, 138, 54, 9, 42, 18, 169, 182, 0, 124, 153, 0, 14, 42, 3, 17, 0, 199, 182, 0, 138]
abbrev dktX2_readSource_7 : List UInt8 := dkwX2_readSource_7 ++ dktX2_readSource_8
def dkwX2_readSource_6 : List UInt8 := [4, 17, 3, 231, 182, 0, 138, 54, 7, 42, 5, 16, 99, 182, 0, 138, 54, 8, 42, 3, 16, 99]
abbrev dktX2_readSource_6 : List UInt8 := dkwX2_readSource_6 ++ dktX2_readSource_7
def dkwX2_readSource_5 : List UInt8 := [17, 252, 25, 17, 3, 231, 182, 0, 158, 54, 5, 42, 17, 252, 25, 17, 3, 231, 182, 0, 158, 54, 6, 42]
abbrev dktX2_readSource_5 : List UInt8 := dkwX2_readSource_5 ++ dktX2_readSource_6
def dkwX2_readSource_4 : List UInt8 := [17, 248, 48, 17, 7, 208, 182, 0, 158, 62, 42, 17, 248, 48, 17, 7, 208, 182, 0, 158, 54, 4, 42]
abbrev dktX2_readSource_4 : List UInt8 := dkwX2_readSource_4 ++ dktX2_readSource_5
def dkwX2_readSource_3 : List UInt8 := [153, 0, 7, 6, 167, 0, 4, 2, 61, 28, 2, 160, 0, 8, 42, 4, 182, 0, 127, 42, 182, 0, 121, 42]
abbrev dktX2_readSource_3 : List UInt8 := dkwX2_readSource_3 ++ dktX2_readSource_4
def dkwX2_readSource_2 : List UInt8 := [167, 0, 30, 42, 18, 165, 182, 0, 117, 153, 0, 7, 5, 167, 0, 17, 42, 18, 167, 182, 0, 117]
abbrev dktX2_readSource_2 : List UInt8 := dkwX2_readSource_2 ++ dktX2_readSource_3
def dkwX2_readSource_1 : List UInt8 := [18, 161, 182, 0, 117, 153, 0, 7, 3, 167, 0, 43, 42, 18, 163, 182, 0, 117, 153, 0, 7, 4]
abbrev dktX2_readSource_1 : List UInt8 := dkwX2_readSource_1 ++ dktX2_readSource_2
def dkwX2_readSource_0 : List UInt8 := [42, 180, 0, 20, 8, 46, 60, 27, 16, 6, 160, 0, 8, 42, 7, 182, 0, 127, 42, 182, 0, 121, 42]
abbrev dktX2_readSource_0 : List UInt8 := dkwX2_readSource_0 ++ dktX2_readSource_1
theorem dksX2_readSource_0 : cX2_readSource.data.toList.drop 0 = dktX2_readSource_0 := by decide +kernel
theorem dksX2_readSource_1 : cX2_readSource.data.toList.drop 23 = dktX2_readSource_1 := dk_seg dksX2_readSource_0 23 rfl rfl
theorem dksX2_readSource_2 : cX2_readSource.data.toList.drop 45 = dktX2_readSource_2 := dk_seg dksX2_readSource_1 22 rfl rfl
theorem dksX2_readSource_3 : cX2_readSource.data.toList.drop 67 = dktX2_readSource_3 := dk_seg dksX2_readSource_2 22 rfl rfl
theorem dksX2_readSource_4 : cX2_readSource.data.toList.drop 91 = dktX2_readSource_4 := dk_seg dksX2_readSource_3 24 rfl rfl
theorem dksX2_readSource_5 : cX2_readSource.data.toList.drop 114 = dktX2_readSource_5 := dk_seg dksX2_readSource_4 23 rfl rfl
theorem dksX2_readSource_6 : cX2_readSource.data.toList.drop 138 = dktX2_readSource_6 := dk_seg dksX2_readSource_5 24 rfl rfl
theorem dksX2_readSource_7 : cX2_readSource.data.toList.drop 160 = dktX2_readSource_7 := dk_seg dksX2_readSource_6 22 rfl rfl
theorem dksX2_readSource_8 : cX2_readSource.data.toList.drop 182 = dktX2_readSource_8 := dk_seg dksX2_readSource_7 22 rfl rfl
theorem dksX2_readSource_9 : cX2_readSource.data.toList.drop 206 = dktX2_readSource_9 := dk_seg dksX2_readSource_8 24 rfl rfl
theorem dksX2_readSource_10 : cX2_readSource.data.toList.drop 228 = dktX2_readSource_10 := dk_seg dksX2_readSource_9 22 rfl rfl
theorem dksX2_readSource_11 : cX2_readSource.data.toList.drop 250 = dktX2_readSource_11 := dk_seg dksX2_readSource_10 22 rfl rfl
theorem dksX2_readSource_12 : cX2_readSource.data.toList.drop 274 = dktX2_readSource_12 := dk_seg dksX2_readSource_11 24 rfl rfl
theorem dksX2_readSource_13 : cX2_readSource.data.toList.drop 298 = dktX2_readSource_13 := dk_seg dksX2_readSource_12 24 rfl rfl
theorem dX2_readSource_0 : decode cX2_readSource 0 = .ok (.aload_n 0, 1) := dk_42 (dk_at dksX2_readSource_0 0 rfl rfl)
theorem dX2_readSource_1 : decode cX2_readSource 1 = .ok (.getfield 20, 3) := dk_180 0 20 (dk_at dksX2_readSource_0 1 rfl rfl)
theorem dX2_readSource_4 : decode cX2_readSource 4 = .ok (.iconst 5, 1) := dk_8 (dk_at dksX2_readSource_0 4 rfl rfl)
theorem dX2_readSource_5 : decode cX2_readSource 5 = .ok (.iaload, 1) := dk_46 (dk_at dksX2_readSource_0 5 rfl rfl)
theorem dX2_readSource_6 : decode cX2_readSource 6 = .ok (.istore_n 1, 1) := dk_60 (dk_at dksX2_readSource_0 6 rfl rfl)
theorem dX2_readSource_7 : decode cX2_readSource 7 = .ok (.iload_n 1, 1) := dk_27 (dk_at dksX2_readSource_0 7 rfl rfl)
theorem dX2_readSource_8 : decode cX2_readSource 8 = .ok (.bipush 6, 2) := dk_16 6 (dk_at dksX2_readSource_0 8 rfl rfl)
theorem dX2_readSource_10 : decode cX2_readSource 10 = .ok (.if_icmp .ne 8, 3) := dk_160 0 8 (dk_at dksX2_readSource_0 10 rfl rfl)
theorem dX2_readSource_13 : decode cX2_readSource 13 = .ok (.aload_n 0, 1) := dk_42 (dk_at dksX2_readSource_0 13 rfl rfl)
theorem dX2_readSource_14 : decode cX2_readSource 14 = .ok (.iconst 4, 1) := dk_7 (dk_at dksX2_readSource_0 14 rfl rfl)
theorem dX2_readSource_15 : decode cX2_readSource 15 = .ok (.invokevirtual 127, 3) := dk_182 0 127 (dk_at dksX2_readSource_0 15 rfl rfl)
theorem dX2_readSource_18 : decode cX2_readSource 18 = .ok (.aload_n 0, 1) := dk_42 (dk_at dksX2_readSource_0 18 rfl rfl)
theorem dX2_readSource_19 : decode cX2_readSource 19 = .ok (.invokevirtual 121, 3) := dk_182 0 121 (dk_at dksX2_readSource_0 19 rfl rfl)
theorem dX2_readSource_22 : decode cX2_readSource 22 = .ok (.aload_n 0, 1) := dk_42 (dk_at dksX2_readSource_0 22 rfl rfl)
theorem dX2_readSource_23 : decode cX2_readSource 23 = .ok (.ldc 161, 2) := dk_18 161 (dk_at dksX2_readSource_1 0 rfl rfl)
theorem dX2_readSource_25 : decode cX2_readSource 25 = .ok (.invokevirtual 117, 3) := dk_182 0 117 (dk_at dksX2_readSource_1 2 rfl rfl)
theorem dX2_readSource_28 : decode cX2_readSource 28 = .ok (.ifCond .eq 7, 3) := dk_153 0 7 (dk_at dksX2_readSource_1 5 rfl rfl)
theorem dX2_readSource_31 : decode cX2_readSource 31 = .ok (.iconst 0, 1) := dk_3 (dk_at dksX2_readSource_1 8 rfl rfl)
theorem dX2_readSource_32 : decode cX2_readSource 32 = .ok (.goto 43, 3) := dk_167 0 43 (dk_at dksX2_readSource_1 9 rfl rfl)
theorem dX2_readSource_35 : decode cX2_readSource 35 = .ok (.aload_n 0, 1) := dk_42 (dk_at dksX2_readSource_1 12 rfl rfl)
theorem dX2_readSource_36 : decode cX2_readSource 36 = .ok (.ldc 163, 2) := dk_18 163 (dk_at dksX2_readSource_1 13 rfl rfl)
theorem dX2_readSource_38 : decode cX2_readSource 38 = .ok (.invokevirtual 117, 3) := dk_182 0 117 (dk_at dksX2_readSource_1 15 rfl rfl)
theorem dX2_readSource_41 : decode cX2_readSource 41 = .ok (.ifCond .eq 7, 3) := dk_153 0 7 (dk_at dksX2_readSource_1 18 rfl rfl)
theorem dX2_readSource_44 : decode cX2_readSource 44 = .ok (.iconst 1, 1) := dk_4 (dk_at dksX2_readSource_1 21 rfl rfl)
theorem dX2_readSource_45 : decode cX2_readSource 45 = .ok (.goto 30, 3) := dk_167 0 30 (dk_at dksX2_readSource_2 0 rfl rfl)
theorem dX2_readSource_48 : decode cX2_readSource 48 = .ok (.aload_n 0, 1) := dk_42 (dk_at dksX2_readSource_2 3 rfl rfl)
theorem dX2_readSource_49 : decode cX2_readSource 49 = .ok (.ldc 165, 2) := dk_18 165 (dk_at dksX2_readSource_2 4 rfl rfl)
theorem dX2_readSource_51 : decode cX2_readSource 51 = .ok (.invokevirtual 117, 3) := dk_182 0 117 (dk_at dksX2_readSource_2 6 rfl rfl)
theorem dX2_readSource_54 : decode cX2_readSource 54 = .ok (.ifCond .eq 7, 3) := dk_153 0 7 (dk_at dksX2_readSource_2 9 rfl rfl)
theorem dX2_readSource_57 : decode cX2_readSource 57 = .ok (.iconst 2, 1) := dk_5 (dk_at dksX2_readSource_2 12 rfl rfl)
theorem dX2_readSource_58 : decode cX2_readSource 58 = .ok (.goto 17, 3) := dk_167 0 17 (dk_at dksX2_readSource_2 13 rfl rfl)
theorem dX2_readSource_61 : decode cX2_readSource 61 = .ok (.aload_n 0, 1) := dk_42 (dk_at dksX2_readSource_2 16 rfl rfl)
theorem dX2_readSource_62 : decode cX2_readSource 62 = .ok (.ldc 167, 2) := dk_18 167 (dk_at dksX2_readSource_2 17 rfl rfl)
theorem dX2_readSource_64 : decode cX2_readSource 64 = .ok (.invokevirtual 117, 3) := dk_182 0 117 (dk_at dksX2_readSource_2 19 rfl rfl)
theorem dX2_readSource_67 : decode cX2_readSource 67 = .ok (.ifCond .eq 7, 3) := dk_153 0 7 (dk_at dksX2_readSource_3 0 rfl rfl)
theorem dX2_readSource_70 : decode cX2_readSource 70 = .ok (.iconst 3, 1) := dk_6 (dk_at dksX2_readSource_3 3 rfl rfl)
theorem dX2_readSource_71 : decode cX2_readSource 71 = .ok (.goto 4, 3) := dk_167 0 4 (dk_at dksX2_readSource_3 4 rfl rfl)
theorem dX2_readSource_74 : decode cX2_readSource 74 = .ok (.iconst (-1), 1) := dk_2 (dk_at dksX2_readSource_3 7 rfl rfl)
theorem dX2_readSource_75 : decode cX2_readSource 75 = .ok (.istore_n 2, 1) := dk_61 (dk_at dksX2_readSource_3 8 rfl rfl)
theorem dX2_readSource_76 : decode cX2_readSource 76 = .ok (.iload_n 2, 1) := dk_28 (dk_at dksX2_readSource_3 9 rfl rfl)
theorem dX2_readSource_77 : decode cX2_readSource 77 = .ok (.iconst (-1), 1) := dk_2 (dk_at dksX2_readSource_3 10 rfl rfl)
theorem dX2_readSource_78 : decode cX2_readSource 78 = .ok (.if_icmp .ne 8, 3) := dk_160 0 8 (dk_at dksX2_readSource_3 11 rfl rfl)
theorem dX2_readSource_81 : decode cX2_readSource 81 = .ok (.aload_n 0, 1) := dk_42 (dk_at dksX2_readSource_3 14 rfl rfl)
theorem dX2_readSource_82 : decode cX2_readSource 82 = .ok (.iconst 1, 1) := dk_4 (dk_at dksX2_readSource_3 15 rfl rfl)
theorem dX2_readSource_83 : decode cX2_readSource 83 = .ok (.invokevirtual 127, 3) := dk_182 0 127 (dk_at dksX2_readSource_3 16 rfl rfl)
theorem dX2_readSource_86 : decode cX2_readSource 86 = .ok (.aload_n 0, 1) := dk_42 (dk_at dksX2_readSource_3 19 rfl rfl)
theorem dX2_readSource_87 : decode cX2_readSource 87 = .ok (.invokevirtual 121, 3) := dk_182 0 121 (dk_at dksX2_readSource_3 20 rfl rfl)
theorem dX2_readSource_90 : decode cX2_readSource 90 = .ok (.aload_n 0, 1) := dk_42 (dk_at dksX2_readSource_3 23 rfl rfl)
theorem dX2_readSource_91 : decode cX2_readSource 91 = .ok (.sipush (-2000), 3) := dk_17 248 48 (dk_at dksX2_readSource_4 0 rfl rfl)
theorem dX2_readSource_94 : decode cX2_readSource 94 = .ok (.sipush 2000, 3) := dk_17 7 208 (dk_at dksX2_readSource_4 3 rfl rfl)
theorem dX2_readSource_97 : decode cX2_readSource 97 = .ok (.invokevirtual 158, 3) := dk_182 0 158 (dk_at dksX2_readSource_4 6 rfl rfl)
theorem dX2_readSource_100 : decode cX2_readSource 100 = .ok (.istore_n 3, 1) := dk_62 (dk_at dksX2_readSource_4 9 rfl rfl)
theorem dX2_readSource_101 : decode cX2_readSource 101 = .ok (.aload_n 0, 1) := dk_42 (dk_at dksX2_readSource_4 10 rfl rfl)
theorem dX2_readSource_102 : decode cX2_readSource 102 = .ok (.sipush (-2000), 3) := dk_17 248 48 (dk_at dksX2_readSource_4 11 rfl rfl)
theorem dX2_readSource_105 : decode cX2_readSource 105 = .ok (.sipush 2000, 3) := dk_17 7 208 (dk_at dksX2_readSource_4 14 rfl rfl)
theorem dX2_readSource_108 : decode cX2_readSource 108 = .ok (.invokevirtual 158, 3) := dk_182 0 158 (dk_at dksX2_readSource_4 17 rfl rfl)
theorem dX2_readSource_111 : decode cX2_readSource 111 = .ok (.istore 4, 2) := dk_54 4 (dk_at dksX2_readSource_4 20 rfl rfl)
theorem dX2_readSource_113 : decode cX2_readSource 113 = .ok (.aload_n 0, 1) := dk_42 (dk_at dksX2_readSource_4 22 rfl rfl)
theorem dX2_readSource_114 : decode cX2_readSource 114 = .ok (.sipush (-999), 3) := dk_17 252 25 (dk_at dksX2_readSource_5 0 rfl rfl)
theorem dX2_readSource_117 : decode cX2_readSource 117 = .ok (.sipush 999, 3) := dk_17 3 231 (dk_at dksX2_readSource_5 3 rfl rfl)
theorem dX2_readSource_120 : decode cX2_readSource 120 = .ok (.invokevirtual 158, 3) := dk_182 0 158 (dk_at dksX2_readSource_5 6 rfl rfl)
theorem dX2_readSource_123 : decode cX2_readSource 123 = .ok (.istore 5, 2) := dk_54 5 (dk_at dksX2_readSource_5 9 rfl rfl)
theorem dX2_readSource_125 : decode cX2_readSource 125 = .ok (.aload_n 0, 1) := dk_42 (dk_at dksX2_readSource_5 11 rfl rfl)
theorem dX2_readSource_126 : decode cX2_readSource 126 = .ok (.sipush (-999), 3) := dk_17 252 25 (dk_at dksX2_readSource_5 12 rfl rfl)
theorem dX2_readSource_129 : decode cX2_readSource 129 = .ok (.sipush 999, 3) := dk_17 3 231 (dk_at dksX2_readSource_5 15 rfl rfl)
theorem dX2_readSource_132 : decode cX2_readSource 132 = .ok (.invokevirtual 158, 3) := dk_182 0 158 (dk_at dksX2_readSource_5 18 rfl rfl)
theorem dX2_readSource_135 : decode cX2_readSource 135 = .ok (.istore 6, 2) := dk_54 6 (dk_at dksX2_readSource_5 21 rfl rfl)
theorem dX2_readSource_137 : decode cX2_readSource 137 = .ok (.aload_n 0, 1) := dk_42 (dk_at dksX2_readSource_5 23 rfl rfl)
theorem dX2_readSource_138 : decode cX2_readSource 138 = .ok (.iconst 1, 1) := dk_4 (dk_at dksX2_readSource_6 0 rfl rfl)
theorem dX2_readSource_139 : decode cX2_readSource 139 = .ok (.sipush 999, 3) := dk_17 3 231 (dk_at dksX2_readSource_6 1 rfl rfl)
theorem dX2_readSource_142 : decode cX2_readSource 142 = .ok (.invokevirtual 138, 3) := dk_182 0 138 (dk_at dksX2_readSource_6 4 rfl rfl)
theorem dX2_readSource_145 : decode cX2_readSource 145 = .ok (.istore 7, 2) := dk_54 7 (dk_at dksX2_readSource_6 7 rfl rfl)
theorem dX2_readSource_147 : decode cX2_readSource 147 = .ok (.aload_n 0, 1) := dk_42 (dk_at dksX2_readSource_6 9 rfl rfl)
theorem dX2_readSource_148 : decode cX2_readSource 148 = .ok (.iconst 2, 1) := dk_5 (dk_at dksX2_readSource_6 10 rfl rfl)
theorem dX2_readSource_149 : decode cX2_readSource 149 = .ok (.bipush 99, 2) := dk_16 99 (dk_at dksX2_readSource_6 11 rfl rfl)
theorem dX2_readSource_151 : decode cX2_readSource 151 = .ok (.invokevirtual 138, 3) := dk_182 0 138 (dk_at dksX2_readSource_6 13 rfl rfl)
theorem dX2_readSource_154 : decode cX2_readSource 154 = .ok (.istore 8, 2) := dk_54 8 (dk_at dksX2_readSource_6 16 rfl rfl)
theorem dX2_readSource_156 : decode cX2_readSource 156 = .ok (.aload_n 0, 1) := dk_42 (dk_at dksX2_readSource_6 18 rfl rfl)
theorem dX2_readSource_157 : decode cX2_readSource 157 = .ok (.iconst 0, 1) := dk_3 (dk_at dksX2_readSource_6 19 rfl rfl)
theorem dX2_readSource_158 : decode cX2_readSource 158 = .ok (.bipush 99, 2) := dk_16 99 (dk_at dksX2_readSource_6 20 rfl rfl)
theorem dX2_readSource_160 : decode cX2_readSource 160 = .ok (.invokevirtual 138, 3) := dk_182 0 138 (dk_at dksX2_readSource_7 0 rfl rfl)
theorem dX2_readSource_163 : decode cX2_readSource 163 = .ok (.istore 9, 2) := dk_54 9 (dk_at dksX2_readSource_7 3 rfl rfl)
theorem dX2_readSource_165 : decode cX2_readSource 165 = .ok (.aload_n 0, 1) := dk_42 (dk_at dksX2_readSource_7 5 rfl rfl)
theorem dX2_readSource_166 : decode cX2_readSource 166 = .ok (.ldc 169, 2) := dk_18 169 (dk_at dksX2_readSource_7 6 rfl rfl)
theorem dX2_readSource_168 : decode cX2_readSource 168 = .ok (.invokevirtual 124, 3) := dk_182 0 124 (dk_at dksX2_readSource_7 8 rfl rfl)
theorem dX2_readSource_171 : decode cX2_readSource 171 = .ok (.ifCond .eq 14, 3) := dk_153 0 14 (dk_at dksX2_readSource_7 11 rfl rfl)
theorem dX2_readSource_174 : decode cX2_readSource 174 = .ok (.aload_n 0, 1) := dk_42 (dk_at dksX2_readSource_7 14 rfl rfl)
theorem dX2_readSource_175 : decode cX2_readSource 175 = .ok (.iconst 0, 1) := dk_3 (dk_at dksX2_readSource_7 15 rfl rfl)
theorem dX2_readSource_176 : decode cX2_readSource 176 = .ok (.sipush 199, 3) := dk_17 0 199 (dk_at dksX2_readSource_7 16 rfl rfl)
theorem dX2_readSource_179 : decode cX2_readSource 179 = .ok (.invokevirtual 138, 3) := dk_182 0 138 (dk_at dksX2_readSource_7 19 rfl rfl)
theorem dX2_readSource_182 : decode cX2_readSource 182 = .ok (.goto 4, 3) := dk_167 0 4 (dk_at dksX2_readSource_8 0 rfl rfl)
theorem dX2_readSource_185 : decode cX2_readSource 185 = .ok (.iconst 0, 1) := dk_3 (dk_at dksX2_readSource_8 3 rfl rfl)
theorem dX2_readSource_186 : decode cX2_readSource 186 = .ok (.istore 10, 2) := dk_54 10 (dk_at dksX2_readSource_8 4 rfl rfl)
theorem dX2_readSource_188 : decode cX2_readSource 188 = .ok (.aload_n 0, 1) := dk_42 (dk_at dksX2_readSource_8 6 rfl rfl)
theorem dX2_readSource_189 : decode cX2_readSource 189 = .ok (.getfield 77, 3) := dk_180 0 77 (dk_at dksX2_readSource_8 7 rfl rfl)
theorem dX2_readSource_192 : decode cX2_readSource 192 = .ok (.ifCond .le 4, 3) := dk_158 0 4 (dk_at dksX2_readSource_8 10 rfl rfl)
theorem dX2_readSource_195 : decode cX2_readSource 195 = .ok (.return_, 1) := dk_177 (dk_at dksX2_readSource_8 13 rfl rfl)
theorem dX2_readSource_196 : decode cX2_readSource 196 = .ok (.aload_n 0, 1) := dk_42 (dk_at dksX2_readSource_8 14 rfl rfl)
theorem dX2_readSource_197 : decode cX2_readSource 197 = .ok (.getfield 20, 3) := dk_180 0 20 (dk_at dksX2_readSource_8 15 rfl rfl)
theorem dX2_readSource_200 : decode cX2_readSource 200 = .ok (.bipush 95, 2) := dk_16 95 (dk_at dksX2_readSource_8 18 rfl rfl)
theorem dX2_readSource_202 : decode cX2_readSource 202 = .ok (.iload_n 1, 1) := dk_27 (dk_at dksX2_readSource_8 20 rfl rfl)
theorem dX2_readSource_203 : decode cX2_readSource 203 = .ok (.iadd, 1) := dk_96 (dk_at dksX2_readSource_8 21 rfl rfl)
theorem dX2_readSource_204 : decode cX2_readSource 204 = .ok (.iload 10, 2) := dk_21 10 (dk_at dksX2_readSource_8 22 rfl rfl)
theorem dX2_readSource_206 : decode cX2_readSource 206 = .ok (.iastore, 1) := dk_79 (dk_at dksX2_readSource_9 0 rfl rfl)
theorem dX2_readSource_207 : decode cX2_readSource 207 = .ok (.aload_n 0, 1) := dk_42 (dk_at dksX2_readSource_9 1 rfl rfl)
theorem dX2_readSource_208 : decode cX2_readSource 208 = .ok (.getfield 26, 3) := dk_180 0 26 (dk_at dksX2_readSource_9 2 rfl rfl)
theorem dX2_readSource_211 : decode cX2_readSource 211 = .ok (.bipush 25, 2) := dk_16 25 (dk_at dksX2_readSource_9 5 rfl rfl)
theorem dX2_readSource_213 : decode cX2_readSource 213 = .ok (.iload_n 1, 1) := dk_27 (dk_at dksX2_readSource_9 7 rfl rfl)
theorem dX2_readSource_214 : decode cX2_readSource 214 = .ok (.iadd, 1) := dk_96 (dk_at dksX2_readSource_9 8 rfl rfl)
theorem dX2_readSource_215 : decode cX2_readSource 215 = .ok (.iconst 1, 1) := dk_4 (dk_at dksX2_readSource_9 9 rfl rfl)
theorem dX2_readSource_216 : decode cX2_readSource 216 = .ok (.iastore, 1) := dk_79 (dk_at dksX2_readSource_9 10 rfl rfl)
theorem dX2_readSource_217 : decode cX2_readSource 217 = .ok (.aload_n 0, 1) := dk_42 (dk_at dksX2_readSource_9 11 rfl rfl)
theorem dX2_readSource_218 : decode cX2_readSource 218 = .ok (.getfield 26, 3) := dk_180 0 26 (dk_at dksX2_readSource_9 12 rfl rfl)
theorem dX2_readSource_221 : decode cX2_readSource 221 = .ok (.bipush 31, 2) := dk_16 31 (dk_at dksX2_readSource_9 15 rfl rfl)
theorem dX2_readSource_223 : decode cX2_readSource 223 = .ok (.iload_n 1, 1) := dk_27 (dk_at dksX2_readSource_9 17 rfl rfl)
theorem dX2_readSource_224 : decode cX2_readSource 224 = .ok (.iadd, 1) := dk_96 (dk_at dksX2_readSource_9 18 rfl rfl)
theorem dX2_readSource_225 : decode cX2_readSource 225 = .ok (.iload_n 3, 1) := dk_29 (dk_at dksX2_readSource_9 19 rfl rfl)
theorem dX2_readSource_226 : decode cX2_readSource 226 = .ok (.iastore, 1) := dk_79 (dk_at dksX2_readSource_9 20 rfl rfl)
theorem dX2_readSource_227 : decode cX2_readSource 227 = .ok (.aload_n 0, 1) := dk_42 (dk_at dksX2_readSource_9 21 rfl rfl)
theorem dX2_readSource_228 : decode cX2_readSource 228 = .ok (.getfield 26, 3) := dk_180 0 26 (dk_at dksX2_readSource_10 0 rfl rfl)
theorem dX2_readSource_231 : decode cX2_readSource 231 = .ok (.bipush 37, 2) := dk_16 37 (dk_at dksX2_readSource_10 3 rfl rfl)
theorem dX2_readSource_233 : decode cX2_readSource 233 = .ok (.iload_n 1, 1) := dk_27 (dk_at dksX2_readSource_10 5 rfl rfl)
theorem dX2_readSource_234 : decode cX2_readSource 234 = .ok (.iadd, 1) := dk_96 (dk_at dksX2_readSource_10 6 rfl rfl)
theorem dX2_readSource_235 : decode cX2_readSource 235 = .ok (.iload 4, 2) := dk_21 4 (dk_at dksX2_readSource_10 7 rfl rfl)
theorem dX2_readSource_237 : decode cX2_readSource 237 = .ok (.iastore, 1) := dk_79 (dk_at dksX2_readSource_10 9 rfl rfl)
theorem dX2_readSource_238 : decode cX2_readSource 238 = .ok (.aload_n 0, 1) := dk_42 (dk_at dksX2_readSource_10 10 rfl rfl)
theorem dX2_readSource_239 : decode cX2_readSource 239 = .ok (.getfield 26, 3) := dk_180 0 26 (dk_at dksX2_readSource_10 11 rfl rfl)
theorem dX2_readSource_242 : decode cX2_readSource 242 = .ok (.bipush 43, 2) := dk_16 43 (dk_at dksX2_readSource_10 14 rfl rfl)
theorem dX2_readSource_244 : decode cX2_readSource 244 = .ok (.iload_n 1, 1) := dk_27 (dk_at dksX2_readSource_10 16 rfl rfl)
theorem dX2_readSource_245 : decode cX2_readSource 245 = .ok (.iadd, 1) := dk_96 (dk_at dksX2_readSource_10 17 rfl rfl)
theorem dX2_readSource_246 : decode cX2_readSource 246 = .ok (.iload 5, 2) := dk_21 5 (dk_at dksX2_readSource_10 18 rfl rfl)
theorem dX2_readSource_248 : decode cX2_readSource 248 = .ok (.iastore, 1) := dk_79 (dk_at dksX2_readSource_10 20 rfl rfl)
theorem dX2_readSource_249 : decode cX2_readSource 249 = .ok (.aload_n 0, 1) := dk_42 (dk_at dksX2_readSource_10 21 rfl rfl)
theorem dX2_readSource_250 : decode cX2_readSource 250 = .ok (.getfield 26, 3) := dk_180 0 26 (dk_at dksX2_readSource_11 0 rfl rfl)
theorem dX2_readSource_253 : decode cX2_readSource 253 = .ok (.bipush 49, 2) := dk_16 49 (dk_at dksX2_readSource_11 3 rfl rfl)
theorem dX2_readSource_255 : decode cX2_readSource 255 = .ok (.iload_n 1, 1) := dk_27 (dk_at dksX2_readSource_11 5 rfl rfl)
theorem dX2_readSource_256 : decode cX2_readSource 256 = .ok (.iadd, 1) := dk_96 (dk_at dksX2_readSource_11 6 rfl rfl)
theorem dX2_readSource_257 : decode cX2_readSource 257 = .ok (.iload 6, 2) := dk_21 6 (dk_at dksX2_readSource_11 7 rfl rfl)
theorem dX2_readSource_259 : decode cX2_readSource 259 = .ok (.iastore, 1) := dk_79 (dk_at dksX2_readSource_11 9 rfl rfl)
theorem dX2_readSource_260 : decode cX2_readSource 260 = .ok (.aload_n 0, 1) := dk_42 (dk_at dksX2_readSource_11 10 rfl rfl)
theorem dX2_readSource_261 : decode cX2_readSource 261 = .ok (.getfield 20, 3) := dk_180 0 20 (dk_at dksX2_readSource_11 11 rfl rfl)
theorem dX2_readSource_264 : decode cX2_readSource 264 = .ok (.bipush 47, 2) := dk_16 47 (dk_at dksX2_readSource_11 14 rfl rfl)
theorem dX2_readSource_266 : decode cX2_readSource 266 = .ok (.iload_n 1, 1) := dk_27 (dk_at dksX2_readSource_11 16 rfl rfl)
theorem dX2_readSource_267 : decode cX2_readSource 267 = .ok (.iadd, 1) := dk_96 (dk_at dksX2_readSource_11 17 rfl rfl)
theorem dX2_readSource_268 : decode cX2_readSource 268 = .ok (.iload_n 2, 1) := dk_28 (dk_at dksX2_readSource_11 18 rfl rfl)
theorem dX2_readSource_269 : decode cX2_readSource 269 = .ok (.iastore, 1) := dk_79 (dk_at dksX2_readSource_11 19 rfl rfl)
theorem dX2_readSource_270 : decode cX2_readSource 270 = .ok (.aload_n 0, 1) := dk_42 (dk_at dksX2_readSource_11 20 rfl rfl)
theorem dX2_readSource_271 : decode cX2_readSource 271 = .ok (.getfield 20, 3) := dk_180 0 20 (dk_at dksX2_readSource_11 21 rfl rfl)
theorem dX2_readSource_274 : decode cX2_readSource 274 = .ok (.bipush 53, 2) := dk_16 53 (dk_at dksX2_readSource_12 0 rfl rfl)
theorem dX2_readSource_276 : decode cX2_readSource 276 = .ok (.iload_n 1, 1) := dk_27 (dk_at dksX2_readSource_12 2 rfl rfl)
theorem dX2_readSource_277 : decode cX2_readSource 277 = .ok (.iadd, 1) := dk_96 (dk_at dksX2_readSource_12 3 rfl rfl)
theorem dX2_readSource_278 : decode cX2_readSource 278 = .ok (.iload 7, 2) := dk_21 7 (dk_at dksX2_readSource_12 4 rfl rfl)
theorem dX2_readSource_280 : decode cX2_readSource 280 = .ok (.iastore, 1) := dk_79 (dk_at dksX2_readSource_12 6 rfl rfl)
theorem dX2_readSource_281 : decode cX2_readSource 281 = .ok (.aload_n 0, 1) := dk_42 (dk_at dksX2_readSource_12 7 rfl rfl)
theorem dX2_readSource_282 : decode cX2_readSource 282 = .ok (.getfield 20, 3) := dk_180 0 20 (dk_at dksX2_readSource_12 8 rfl rfl)
theorem dX2_readSource_285 : decode cX2_readSource 285 = .ok (.bipush 59, 2) := dk_16 59 (dk_at dksX2_readSource_12 11 rfl rfl)
theorem dX2_readSource_287 : decode cX2_readSource 287 = .ok (.iload_n 1, 1) := dk_27 (dk_at dksX2_readSource_12 13 rfl rfl)
theorem dX2_readSource_288 : decode cX2_readSource 288 = .ok (.iadd, 1) := dk_96 (dk_at dksX2_readSource_12 14 rfl rfl)
theorem dX2_readSource_289 : decode cX2_readSource 289 = .ok (.iload 8, 2) := dk_21 8 (dk_at dksX2_readSource_12 15 rfl rfl)
theorem dX2_readSource_291 : decode cX2_readSource 291 = .ok (.iastore, 1) := dk_79 (dk_at dksX2_readSource_12 17 rfl rfl)
theorem dX2_readSource_292 : decode cX2_readSource 292 = .ok (.aload_n 0, 1) := dk_42 (dk_at dksX2_readSource_12 18 rfl rfl)
theorem dX2_readSource_293 : decode cX2_readSource 293 = .ok (.getfield 20, 3) := dk_180 0 20 (dk_at dksX2_readSource_12 19 rfl rfl)
theorem dX2_readSource_296 : decode cX2_readSource 296 = .ok (.bipush 65, 2) := dk_16 65 (dk_at dksX2_readSource_12 22 rfl rfl)
theorem dX2_readSource_298 : decode cX2_readSource 298 = .ok (.iload_n 1, 1) := dk_27 (dk_at dksX2_readSource_13 0 rfl rfl)
theorem dX2_readSource_299 : decode cX2_readSource 299 = .ok (.iadd, 1) := dk_96 (dk_at dksX2_readSource_13 1 rfl rfl)
theorem dX2_readSource_300 : decode cX2_readSource 300 = .ok (.iload 9, 2) := dk_21 9 (dk_at dksX2_readSource_13 2 rfl rfl)
theorem dX2_readSource_302 : decode cX2_readSource 302 = .ok (.iastore, 1) := dk_79 (dk_at dksX2_readSource_13 4 rfl rfl)
theorem dX2_readSource_303 : decode cX2_readSource 303 = .ok (.aload_n 0, 1) := dk_42 (dk_at dksX2_readSource_13 5 rfl rfl)
theorem dX2_readSource_304 : decode cX2_readSource 304 = .ok (.getfield 20, 3) := dk_180 0 20 (dk_at dksX2_readSource_13 6 rfl rfl)
theorem dX2_readSource_307 : decode cX2_readSource 307 = .ok (.iconst 5, 1) := dk_8 (dk_at dksX2_readSource_13 9 rfl rfl)
theorem dX2_readSource_308 : decode cX2_readSource 308 = .ok (.dup2, 1) := dk_92 (dk_at dksX2_readSource_13 10 rfl rfl)
theorem dX2_readSource_309 : decode cX2_readSource 309 = .ok (.iaload, 1) := dk_46 (dk_at dksX2_readSource_13 11 rfl rfl)
theorem dX2_readSource_310 : decode cX2_readSource 310 = .ok (.iconst 1, 1) := dk_4 (dk_at dksX2_readSource_13 12 rfl rfl)
theorem dX2_readSource_311 : decode cX2_readSource 311 = .ok (.iadd, 1) := dk_96 (dk_at dksX2_readSource_13 13 rfl rfl)
theorem dX2_readSource_312 : decode cX2_readSource 312 = .ok (.iastore, 1) := dk_79 (dk_at dksX2_readSource_13 14 rfl rfl)
theorem dX2_readSource_313 : decode cX2_readSource 313 = .ok (.return_, 1) := dk_177 (dk_at dksX2_readSource_13 15 rfl rfl)
abbrev cX2_copy : ByteArray := prog_15_method_36_code
def yX2_copy : MethodName := ⟨RX2, "copy", "([II[II)V"⟩
def dkwX2_copy_1 : List UInt8 := [132, 4, 1, 167, 255, 233, 177]
abbrev dktX2_copy_1 : List UInt8 := dkwX2_copy_1 ++ []
def dkwX2_copy_0 : List UInt8 := [3, 54, 4, 21, 4, 17, 9, 151, 162, 0, 21, 44, 29, 21, 4, 96, 42, 27, 21, 4, 96, 46, 79]
abbrev dktX2_copy_0 : List UInt8 := dkwX2_copy_0 ++ dktX2_copy_1
theorem dksX2_copy_0 : cX2_copy.data.toList.drop 0 = dktX2_copy_0 := by decide +kernel
theorem dksX2_copy_1 : cX2_copy.data.toList.drop 23 = dktX2_copy_1 := dk_seg dksX2_copy_0 23 rfl rfl
theorem dX2_copy_0 : decode cX2_copy 0 = .ok (.iconst 0, 1) := dk_3 (dk_at dksX2_copy_0 0 rfl rfl)
theorem dX2_copy_1 : decode cX2_copy 1 = .ok (.istore 4, 2) := dk_54 4 (dk_at dksX2_copy_0 1 rfl rfl)
theorem dX2_copy_3 : decode cX2_copy 3 = .ok (.iload 4, 2) := dk_21 4 (dk_at dksX2_copy_0 3 rfl rfl)
theorem dX2_copy_5 : decode cX2_copy 5 = .ok (.sipush 2455, 3) := dk_17 9 151 (dk_at dksX2_copy_0 5 rfl rfl)
theorem dX2_copy_8 : decode cX2_copy 8 = .ok (.if_icmp .ge 21, 3) := dk_162 0 21 (dk_at dksX2_copy_0 8 rfl rfl)
theorem dX2_copy_11 : decode cX2_copy 11 = .ok (.aload_n 2, 1) := dk_44 (dk_at dksX2_copy_0 11 rfl rfl)
theorem dX2_copy_12 : decode cX2_copy 12 = .ok (.iload_n 3, 1) := dk_29 (dk_at dksX2_copy_0 12 rfl rfl)
theorem dX2_copy_13 : decode cX2_copy 13 = .ok (.iload 4, 2) := dk_21 4 (dk_at dksX2_copy_0 13 rfl rfl)
theorem dX2_copy_15 : decode cX2_copy 15 = .ok (.iadd, 1) := dk_96 (dk_at dksX2_copy_0 15 rfl rfl)
theorem dX2_copy_16 : decode cX2_copy 16 = .ok (.aload_n 0, 1) := dk_42 (dk_at dksX2_copy_0 16 rfl rfl)
theorem dX2_copy_17 : decode cX2_copy 17 = .ok (.iload_n 1, 1) := dk_27 (dk_at dksX2_copy_0 17 rfl rfl)
theorem dX2_copy_18 : decode cX2_copy 18 = .ok (.iload 4, 2) := dk_21 4 (dk_at dksX2_copy_0 18 rfl rfl)
theorem dX2_copy_20 : decode cX2_copy 20 = .ok (.iadd, 1) := dk_96 (dk_at dksX2_copy_0 20 rfl rfl)
theorem dX2_copy_21 : decode cX2_copy 21 = .ok (.iaload, 1) := dk_46 (dk_at dksX2_copy_0 21 rfl rfl)
theorem dX2_copy_22 : decode cX2_copy 22 = .ok (.iastore, 1) := dk_79 (dk_at dksX2_copy_0 22 rfl rfl)
theorem dX2_copy_23 : decode cX2_copy 23 = .ok (.iinc 4 1, 3) := dk_132 4 1 (dk_at dksX2_copy_1 0 rfl rfl)
theorem dX2_copy_26 : decode cX2_copy 26 = .ok (.goto (-23), 3) := dk_167 255 233 (dk_at dksX2_copy_1 3 rfl rfl)
theorem dX2_copy_29 : decode cX2_copy 29 = .ok (.return_, 1) := dk_177 (dk_at dksX2_copy_1 6 rfl rfl)
abbrev cX2_cellCount : ByteArray := prog_15_method_38_code
def yX2_cellCount : MethodName := ⟨RX2, "cellCount", "()I"⟩
def dkwX2_cellCount_0 : List UInt8 := [42, 180, 0, 17, 16, 9, 46, 42, 180, 0, 17, 16, 10, 46, 104, 172]
abbrev dktX2_cellCount_0 : List UInt8 := dkwX2_cellCount_0 ++ []
theorem dksX2_cellCount_0 : cX2_cellCount.data.toList.drop 0 = dktX2_cellCount_0 := by decide +kernel
theorem dX2_cellCount_0 : decode cX2_cellCount 0 = .ok (.aload_n 0, 1) := dk_42 (dk_at dksX2_cellCount_0 0 rfl rfl)
theorem dX2_cellCount_1 : decode cX2_cellCount 1 = .ok (.getfield 17, 3) := dk_180 0 17 (dk_at dksX2_cellCount_0 1 rfl rfl)
theorem dX2_cellCount_4 : decode cX2_cellCount 4 = .ok (.bipush 9, 2) := dk_16 9 (dk_at dksX2_cellCount_0 4 rfl rfl)
theorem dX2_cellCount_6 : decode cX2_cellCount 6 = .ok (.iaload, 1) := dk_46 (dk_at dksX2_cellCount_0 6 rfl rfl)
theorem dX2_cellCount_7 : decode cX2_cellCount 7 = .ok (.aload_n 0, 1) := dk_42 (dk_at dksX2_cellCount_0 7 rfl rfl)
theorem dX2_cellCount_8 : decode cX2_cellCount 8 = .ok (.getfield 17, 3) := dk_180 0 17 (dk_at dksX2_cellCount_0 8 rfl rfl)
theorem dX2_cellCount_11 : decode cX2_cellCount 11 = .ok (.bipush 10, 2) := dk_16 10 (dk_at dksX2_cellCount_0 11 rfl rfl)
theorem dX2_cellCount_13 : decode cX2_cellCount 13 = .ok (.iaload, 1) := dk_46 (dk_at dksX2_cellCount_0 13 rfl rfl)
theorem dX2_cellCount_14 : decode cX2_cellCount 14 = .ok (.imul, 1) := dk_104 (dk_at dksX2_cellCount_0 14 rfl rfl)
theorem dX2_cellCount_15 : decode cX2_cellCount 15 = .ok (.ireturn, 1) := dk_172 (dk_at dksX2_cellCount_0 15 rfl rfl)
abbrev cX2_centre : ByteArray := prog_15_method_39_code
def yX2_centre : MethodName := ⟨RX2, "centre", "(II)I"⟩
def dkwX2_centre_2 : List UInt8 := [42, 180, 0, 17, 16, 9, 46, 108, 104, 96, 172]
abbrev dktX2_centre_2 : List UInt8 := dkwX2_centre_2 ++ []
def dkwX2_centre_1 : List UInt8 := [16, 9, 46, 112, 104, 96, 167, 0, 28, 42, 180, 0, 17, 16, 7, 46, 42, 180, 0, 17, 16, 8, 46, 27]
abbrev dktX2_centre_1 : List UInt8 := dkwX2_centre_1 ++ dktX2_centre_2
def dkwX2_centre_0 : List UInt8 := [28, 154, 0, 31, 42, 180, 0, 17, 16, 6, 46, 42, 180, 0, 17, 16, 8, 46, 27, 42, 180, 0, 17]
abbrev dktX2_centre_0 : List UInt8 := dkwX2_centre_0 ++ dktX2_centre_1
theorem dksX2_centre_0 : cX2_centre.data.toList.drop 0 = dktX2_centre_0 := by decide +kernel
theorem dksX2_centre_1 : cX2_centre.data.toList.drop 23 = dktX2_centre_1 := dk_seg dksX2_centre_0 23 rfl rfl
theorem dksX2_centre_2 : cX2_centre.data.toList.drop 47 = dktX2_centre_2 := dk_seg dksX2_centre_1 24 rfl rfl
theorem dX2_centre_0 : decode cX2_centre 0 = .ok (.iload_n 2, 1) := dk_28 (dk_at dksX2_centre_0 0 rfl rfl)
theorem dX2_centre_1 : decode cX2_centre 1 = .ok (.ifCond .ne 31, 3) := dk_154 0 31 (dk_at dksX2_centre_0 1 rfl rfl)
theorem dX2_centre_4 : decode cX2_centre 4 = .ok (.aload_n 0, 1) := dk_42 (dk_at dksX2_centre_0 4 rfl rfl)
theorem dX2_centre_5 : decode cX2_centre 5 = .ok (.getfield 17, 3) := dk_180 0 17 (dk_at dksX2_centre_0 5 rfl rfl)
theorem dX2_centre_8 : decode cX2_centre 8 = .ok (.bipush 6, 2) := dk_16 6 (dk_at dksX2_centre_0 8 rfl rfl)
theorem dX2_centre_10 : decode cX2_centre 10 = .ok (.iaload, 1) := dk_46 (dk_at dksX2_centre_0 10 rfl rfl)
theorem dX2_centre_11 : decode cX2_centre 11 = .ok (.aload_n 0, 1) := dk_42 (dk_at dksX2_centre_0 11 rfl rfl)
theorem dX2_centre_12 : decode cX2_centre 12 = .ok (.getfield 17, 3) := dk_180 0 17 (dk_at dksX2_centre_0 12 rfl rfl)
theorem dX2_centre_15 : decode cX2_centre 15 = .ok (.bipush 8, 2) := dk_16 8 (dk_at dksX2_centre_0 15 rfl rfl)
theorem dX2_centre_17 : decode cX2_centre 17 = .ok (.iaload, 1) := dk_46 (dk_at dksX2_centre_0 17 rfl rfl)
theorem dX2_centre_18 : decode cX2_centre 18 = .ok (.iload_n 1, 1) := dk_27 (dk_at dksX2_centre_0 18 rfl rfl)
theorem dX2_centre_19 : decode cX2_centre 19 = .ok (.aload_n 0, 1) := dk_42 (dk_at dksX2_centre_0 19 rfl rfl)
theorem dX2_centre_20 : decode cX2_centre 20 = .ok (.getfield 17, 3) := dk_180 0 17 (dk_at dksX2_centre_0 20 rfl rfl)
theorem dX2_centre_23 : decode cX2_centre 23 = .ok (.bipush 9, 2) := dk_16 9 (dk_at dksX2_centre_1 0 rfl rfl)
theorem dX2_centre_25 : decode cX2_centre 25 = .ok (.iaload, 1) := dk_46 (dk_at dksX2_centre_1 2 rfl rfl)
theorem dX2_centre_26 : decode cX2_centre 26 = .ok (.irem, 1) := dk_112 (dk_at dksX2_centre_1 3 rfl rfl)
theorem dX2_centre_27 : decode cX2_centre 27 = .ok (.imul, 1) := dk_104 (dk_at dksX2_centre_1 4 rfl rfl)
theorem dX2_centre_28 : decode cX2_centre 28 = .ok (.iadd, 1) := dk_96 (dk_at dksX2_centre_1 5 rfl rfl)
theorem dX2_centre_29 : decode cX2_centre 29 = .ok (.goto 28, 3) := dk_167 0 28 (dk_at dksX2_centre_1 6 rfl rfl)
theorem dX2_centre_32 : decode cX2_centre 32 = .ok (.aload_n 0, 1) := dk_42 (dk_at dksX2_centre_1 9 rfl rfl)
theorem dX2_centre_33 : decode cX2_centre 33 = .ok (.getfield 17, 3) := dk_180 0 17 (dk_at dksX2_centre_1 10 rfl rfl)
theorem dX2_centre_36 : decode cX2_centre 36 = .ok (.bipush 7, 2) := dk_16 7 (dk_at dksX2_centre_1 13 rfl rfl)
theorem dX2_centre_38 : decode cX2_centre 38 = .ok (.iaload, 1) := dk_46 (dk_at dksX2_centre_1 15 rfl rfl)
theorem dX2_centre_39 : decode cX2_centre 39 = .ok (.aload_n 0, 1) := dk_42 (dk_at dksX2_centre_1 16 rfl rfl)
theorem dX2_centre_40 : decode cX2_centre 40 = .ok (.getfield 17, 3) := dk_180 0 17 (dk_at dksX2_centre_1 17 rfl rfl)
theorem dX2_centre_43 : decode cX2_centre 43 = .ok (.bipush 8, 2) := dk_16 8 (dk_at dksX2_centre_1 20 rfl rfl)
theorem dX2_centre_45 : decode cX2_centre 45 = .ok (.iaload, 1) := dk_46 (dk_at dksX2_centre_1 22 rfl rfl)
theorem dX2_centre_46 : decode cX2_centre 46 = .ok (.iload_n 1, 1) := dk_27 (dk_at dksX2_centre_1 23 rfl rfl)
theorem dX2_centre_47 : decode cX2_centre 47 = .ok (.aload_n 0, 1) := dk_42 (dk_at dksX2_centre_2 0 rfl rfl)
theorem dX2_centre_48 : decode cX2_centre 48 = .ok (.getfield 17, 3) := dk_180 0 17 (dk_at dksX2_centre_2 1 rfl rfl)
theorem dX2_centre_51 : decode cX2_centre 51 = .ok (.bipush 9, 2) := dk_16 9 (dk_at dksX2_centre_2 4 rfl rfl)
theorem dX2_centre_53 : decode cX2_centre 53 = .ok (.iaload, 1) := dk_46 (dk_at dksX2_centre_2 6 rfl rfl)
theorem dX2_centre_54 : decode cX2_centre 54 = .ok (.idiv, 1) := dk_108 (dk_at dksX2_centre_2 7 rfl rfl)
theorem dX2_centre_55 : decode cX2_centre 55 = .ok (.imul, 1) := dk_104 (dk_at dksX2_centre_2 8 rfl rfl)
theorem dX2_centre_56 : decode cX2_centre 56 = .ok (.iadd, 1) := dk_96 (dk_at dksX2_centre_2 9 rfl rfl)
theorem dX2_centre_57 : decode cX2_centre 57 = .ok (.ireturn, 1) := dk_172 (dk_at dksX2_centre_2 10 rfl rfl)
abbrev cX2_delayFrom : ByteArray := prog_15_method_41_code
def yX2_delayFrom : MethodName := ⟨RX2, "delayFrom", "(III)I"⟩
def dkwX2_delayFrom_3 : List UInt8 := [172]
abbrev dktX2_delayFrom_3 : List UInt8 := dkwX2_delayFrom_3 ++ []
def dkwX2_delayFrom_2 : List UInt8 := [21, 6, 104, 96, 184, 1, 3, 42, 180, 0, 17, 4, 46, 108, 21, 6, 42, 180, 0, 17, 4, 46, 108, 100]
abbrev dktX2_delayFrom_2 : List UInt8 := dkwX2_delayFrom_2 ++ dktX2_delayFrom_3
def dkwX2_delayFrom_1 : List UInt8 := [54, 5, 42, 180, 0, 17, 3, 46, 54, 6, 21, 4, 21, 4, 104, 21, 5, 21, 5, 104, 96, 21, 6]
abbrev dktX2_delayFrom_1 : List UInt8 := dkwX2_delayFrom_1 ++ dktX2_delayFrom_2
def dkwX2_delayFrom_0 : List UInt8 := [28, 42, 180, 0, 17, 16, 11, 27, 96, 46, 100, 54, 4, 29, 42, 180, 0, 17, 16, 23, 27, 96, 46, 100]
abbrev dktX2_delayFrom_0 : List UInt8 := dkwX2_delayFrom_0 ++ dktX2_delayFrom_1
theorem dksX2_delayFrom_0 : cX2_delayFrom.data.toList.drop 0 = dktX2_delayFrom_0 := by decide +kernel
theorem dksX2_delayFrom_1 : cX2_delayFrom.data.toList.drop 24 = dktX2_delayFrom_1 := dk_seg dksX2_delayFrom_0 24 rfl rfl
theorem dksX2_delayFrom_2 : cX2_delayFrom.data.toList.drop 47 = dktX2_delayFrom_2 := dk_seg dksX2_delayFrom_1 23 rfl rfl
theorem dksX2_delayFrom_3 : cX2_delayFrom.data.toList.drop 71 = dktX2_delayFrom_3 := dk_seg dksX2_delayFrom_2 24 rfl rfl
theorem dX2_delayFrom_0 : decode cX2_delayFrom 0 = .ok (.iload_n 2, 1) := dk_28 (dk_at dksX2_delayFrom_0 0 rfl rfl)
theorem dX2_delayFrom_1 : decode cX2_delayFrom 1 = .ok (.aload_n 0, 1) := dk_42 (dk_at dksX2_delayFrom_0 1 rfl rfl)
theorem dX2_delayFrom_2 : decode cX2_delayFrom 2 = .ok (.getfield 17, 3) := dk_180 0 17 (dk_at dksX2_delayFrom_0 2 rfl rfl)
theorem dX2_delayFrom_5 : decode cX2_delayFrom 5 = .ok (.bipush 11, 2) := dk_16 11 (dk_at dksX2_delayFrom_0 5 rfl rfl)
theorem dX2_delayFrom_7 : decode cX2_delayFrom 7 = .ok (.iload_n 1, 1) := dk_27 (dk_at dksX2_delayFrom_0 7 rfl rfl)
theorem dX2_delayFrom_8 : decode cX2_delayFrom 8 = .ok (.iadd, 1) := dk_96 (dk_at dksX2_delayFrom_0 8 rfl rfl)
theorem dX2_delayFrom_9 : decode cX2_delayFrom 9 = .ok (.iaload, 1) := dk_46 (dk_at dksX2_delayFrom_0 9 rfl rfl)
theorem dX2_delayFrom_10 : decode cX2_delayFrom 10 = .ok (.isub, 1) := dk_100 (dk_at dksX2_delayFrom_0 10 rfl rfl)
theorem dX2_delayFrom_11 : decode cX2_delayFrom 11 = .ok (.istore 4, 2) := dk_54 4 (dk_at dksX2_delayFrom_0 11 rfl rfl)
theorem dX2_delayFrom_13 : decode cX2_delayFrom 13 = .ok (.iload_n 3, 1) := dk_29 (dk_at dksX2_delayFrom_0 13 rfl rfl)
theorem dX2_delayFrom_14 : decode cX2_delayFrom 14 = .ok (.aload_n 0, 1) := dk_42 (dk_at dksX2_delayFrom_0 14 rfl rfl)
theorem dX2_delayFrom_15 : decode cX2_delayFrom 15 = .ok (.getfield 17, 3) := dk_180 0 17 (dk_at dksX2_delayFrom_0 15 rfl rfl)
theorem dX2_delayFrom_18 : decode cX2_delayFrom 18 = .ok (.bipush 23, 2) := dk_16 23 (dk_at dksX2_delayFrom_0 18 rfl rfl)
theorem dX2_delayFrom_20 : decode cX2_delayFrom 20 = .ok (.iload_n 1, 1) := dk_27 (dk_at dksX2_delayFrom_0 20 rfl rfl)
theorem dX2_delayFrom_21 : decode cX2_delayFrom 21 = .ok (.iadd, 1) := dk_96 (dk_at dksX2_delayFrom_0 21 rfl rfl)
theorem dX2_delayFrom_22 : decode cX2_delayFrom 22 = .ok (.iaload, 1) := dk_46 (dk_at dksX2_delayFrom_0 22 rfl rfl)
theorem dX2_delayFrom_23 : decode cX2_delayFrom 23 = .ok (.isub, 1) := dk_100 (dk_at dksX2_delayFrom_0 23 rfl rfl)
theorem dX2_delayFrom_24 : decode cX2_delayFrom 24 = .ok (.istore 5, 2) := dk_54 5 (dk_at dksX2_delayFrom_1 0 rfl rfl)
theorem dX2_delayFrom_26 : decode cX2_delayFrom 26 = .ok (.aload_n 0, 1) := dk_42 (dk_at dksX2_delayFrom_1 2 rfl rfl)
theorem dX2_delayFrom_27 : decode cX2_delayFrom 27 = .ok (.getfield 17, 3) := dk_180 0 17 (dk_at dksX2_delayFrom_1 3 rfl rfl)
theorem dX2_delayFrom_30 : decode cX2_delayFrom 30 = .ok (.iconst 0, 1) := dk_3 (dk_at dksX2_delayFrom_1 6 rfl rfl)
theorem dX2_delayFrom_31 : decode cX2_delayFrom 31 = .ok (.iaload, 1) := dk_46 (dk_at dksX2_delayFrom_1 7 rfl rfl)
theorem dX2_delayFrom_32 : decode cX2_delayFrom 32 = .ok (.istore 6, 2) := dk_54 6 (dk_at dksX2_delayFrom_1 8 rfl rfl)
theorem dX2_delayFrom_34 : decode cX2_delayFrom 34 = .ok (.iload 4, 2) := dk_21 4 (dk_at dksX2_delayFrom_1 10 rfl rfl)
theorem dX2_delayFrom_36 : decode cX2_delayFrom 36 = .ok (.iload 4, 2) := dk_21 4 (dk_at dksX2_delayFrom_1 12 rfl rfl)
theorem dX2_delayFrom_38 : decode cX2_delayFrom 38 = .ok (.imul, 1) := dk_104 (dk_at dksX2_delayFrom_1 14 rfl rfl)
theorem dX2_delayFrom_39 : decode cX2_delayFrom 39 = .ok (.iload 5, 2) := dk_21 5 (dk_at dksX2_delayFrom_1 15 rfl rfl)
theorem dX2_delayFrom_41 : decode cX2_delayFrom 41 = .ok (.iload 5, 2) := dk_21 5 (dk_at dksX2_delayFrom_1 17 rfl rfl)
theorem dX2_delayFrom_43 : decode cX2_delayFrom 43 = .ok (.imul, 1) := dk_104 (dk_at dksX2_delayFrom_1 19 rfl rfl)
theorem dX2_delayFrom_44 : decode cX2_delayFrom 44 = .ok (.iadd, 1) := dk_96 (dk_at dksX2_delayFrom_1 20 rfl rfl)
theorem dX2_delayFrom_45 : decode cX2_delayFrom 45 = .ok (.iload 6, 2) := dk_21 6 (dk_at dksX2_delayFrom_1 21 rfl rfl)
theorem dX2_delayFrom_47 : decode cX2_delayFrom 47 = .ok (.iload 6, 2) := dk_21 6 (dk_at dksX2_delayFrom_2 0 rfl rfl)
theorem dX2_delayFrom_49 : decode cX2_delayFrom 49 = .ok (.imul, 1) := dk_104 (dk_at dksX2_delayFrom_2 2 rfl rfl)
theorem dX2_delayFrom_50 : decode cX2_delayFrom 50 = .ok (.iadd, 1) := dk_96 (dk_at dksX2_delayFrom_2 3 rfl rfl)
theorem dX2_delayFrom_51 : decode cX2_delayFrom 51 = .ok (.invokestatic 259, 3) := dk_184 1 3 (dk_at dksX2_delayFrom_2 4 rfl rfl)
theorem dX2_delayFrom_54 : decode cX2_delayFrom 54 = .ok (.aload_n 0, 1) := dk_42 (dk_at dksX2_delayFrom_2 7 rfl rfl)
theorem dX2_delayFrom_55 : decode cX2_delayFrom 55 = .ok (.getfield 17, 3) := dk_180 0 17 (dk_at dksX2_delayFrom_2 8 rfl rfl)
theorem dX2_delayFrom_58 : decode cX2_delayFrom 58 = .ok (.iconst 1, 1) := dk_4 (dk_at dksX2_delayFrom_2 11 rfl rfl)
theorem dX2_delayFrom_59 : decode cX2_delayFrom 59 = .ok (.iaload, 1) := dk_46 (dk_at dksX2_delayFrom_2 12 rfl rfl)
theorem dX2_delayFrom_60 : decode cX2_delayFrom 60 = .ok (.idiv, 1) := dk_108 (dk_at dksX2_delayFrom_2 13 rfl rfl)
theorem dX2_delayFrom_61 : decode cX2_delayFrom 61 = .ok (.iload 6, 2) := dk_21 6 (dk_at dksX2_delayFrom_2 14 rfl rfl)
theorem dX2_delayFrom_63 : decode cX2_delayFrom 63 = .ok (.aload_n 0, 1) := dk_42 (dk_at dksX2_delayFrom_2 16 rfl rfl)
theorem dX2_delayFrom_64 : decode cX2_delayFrom 64 = .ok (.getfield 17, 3) := dk_180 0 17 (dk_at dksX2_delayFrom_2 17 rfl rfl)
theorem dX2_delayFrom_67 : decode cX2_delayFrom 67 = .ok (.iconst 1, 1) := dk_4 (dk_at dksX2_delayFrom_2 20 rfl rfl)
theorem dX2_delayFrom_68 : decode cX2_delayFrom 68 = .ok (.iaload, 1) := dk_46 (dk_at dksX2_delayFrom_2 21 rfl rfl)
theorem dX2_delayFrom_69 : decode cX2_delayFrom 69 = .ok (.idiv, 1) := dk_108 (dk_at dksX2_delayFrom_2 22 rfl rfl)
theorem dX2_delayFrom_70 : decode cX2_delayFrom 70 = .ok (.isub, 1) := dk_100 (dk_at dksX2_delayFrom_2 23 rfl rfl)
theorem dX2_delayFrom_71 : decode cX2_delayFrom 71 = .ok (.ireturn, 1) := dk_172 (dk_at dksX2_delayFrom_3 0 rfl rfl)
abbrev cX2_root : ByteArray := prog_15_method_40_code
def yX2_root : MethodName := ⟨RX2, "root", "(I)I"⟩
def dkwX2_root_1 : List UInt8 := [27, 28, 96, 60, 28, 5, 108, 61, 167, 255, 230, 27, 172]
abbrev dktX2_root_1 : List UInt8 := dkwX2_root_1 ++ []
def dkwX2_root_0 : List UInt8 := [3, 60, 19, 1, 2, 61, 28, 158, 0, 28, 27, 28, 96, 133, 66, 33, 33, 105, 26, 133, 148, 157, 0, 7]
abbrev dktX2_root_0 : List UInt8 := dkwX2_root_0 ++ dktX2_root_1
theorem dksX2_root_0 : cX2_root.data.toList.drop 0 = dktX2_root_0 := by decide +kernel
theorem dksX2_root_1 : cX2_root.data.toList.drop 24 = dktX2_root_1 := dk_seg dksX2_root_0 24 rfl rfl
theorem dX2_root_0 : decode cX2_root 0 = .ok (.iconst 0, 1) := dk_3 (dk_at dksX2_root_0 0 rfl rfl)
theorem dX2_root_1 : decode cX2_root 1 = .ok (.istore_n 1, 1) := dk_60 (dk_at dksX2_root_0 1 rfl rfl)
theorem dX2_root_2 : decode cX2_root 2 = .ok (.ldc_w 258, 3) := dk_19 1 2 (dk_at dksX2_root_0 2 rfl rfl)
theorem dX2_root_5 : decode cX2_root 5 = .ok (.istore_n 2, 1) := dk_61 (dk_at dksX2_root_0 5 rfl rfl)
theorem dX2_root_6 : decode cX2_root 6 = .ok (.iload_n 2, 1) := dk_28 (dk_at dksX2_root_0 6 rfl rfl)
theorem dX2_root_7 : decode cX2_root 7 = .ok (.ifCond .le 28, 3) := dk_158 0 28 (dk_at dksX2_root_0 7 rfl rfl)
theorem dX2_root_10 : decode cX2_root 10 = .ok (.iload_n 1, 1) := dk_27 (dk_at dksX2_root_0 10 rfl rfl)
theorem dX2_root_11 : decode cX2_root 11 = .ok (.iload_n 2, 1) := dk_28 (dk_at dksX2_root_0 11 rfl rfl)
theorem dX2_root_12 : decode cX2_root 12 = .ok (.iadd, 1) := dk_96 (dk_at dksX2_root_0 12 rfl rfl)
theorem dX2_root_13 : decode cX2_root 13 = .ok (.i2l, 1) := dk_133 (dk_at dksX2_root_0 13 rfl rfl)
theorem dX2_root_14 : decode cX2_root 14 = .ok (.lstore_n 3, 1) := dk_66 (dk_at dksX2_root_0 14 rfl rfl)
theorem dX2_root_15 : decode cX2_root 15 = .ok (.lload_n 3, 1) := dk_33 (dk_at dksX2_root_0 15 rfl rfl)
theorem dX2_root_16 : decode cX2_root 16 = .ok (.lload_n 3, 1) := dk_33 (dk_at dksX2_root_0 16 rfl rfl)
theorem dX2_root_17 : decode cX2_root 17 = .ok (.lmul, 1) := dk_105 (dk_at dksX2_root_0 17 rfl rfl)
theorem dX2_root_18 : decode cX2_root 18 = .ok (.iload_n 0, 1) := dk_26 (dk_at dksX2_root_0 18 rfl rfl)
theorem dX2_root_19 : decode cX2_root 19 = .ok (.i2l, 1) := dk_133 (dk_at dksX2_root_0 19 rfl rfl)
theorem dX2_root_20 : decode cX2_root 20 = .ok (.lcmp, 1) := dk_148 (dk_at dksX2_root_0 20 rfl rfl)
theorem dX2_root_21 : decode cX2_root 21 = .ok (.ifCond .gt 7, 3) := dk_157 0 7 (dk_at dksX2_root_0 21 rfl rfl)
theorem dX2_root_24 : decode cX2_root 24 = .ok (.iload_n 1, 1) := dk_27 (dk_at dksX2_root_1 0 rfl rfl)
theorem dX2_root_25 : decode cX2_root 25 = .ok (.iload_n 2, 1) := dk_28 (dk_at dksX2_root_1 1 rfl rfl)
theorem dX2_root_26 : decode cX2_root 26 = .ok (.iadd, 1) := dk_96 (dk_at dksX2_root_1 2 rfl rfl)
theorem dX2_root_27 : decode cX2_root 27 = .ok (.istore_n 1, 1) := dk_60 (dk_at dksX2_root_1 3 rfl rfl)
theorem dX2_root_28 : decode cX2_root 28 = .ok (.iload_n 2, 1) := dk_28 (dk_at dksX2_root_1 4 rfl rfl)
theorem dX2_root_29 : decode cX2_root 29 = .ok (.iconst 2, 1) := dk_5 (dk_at dksX2_root_1 5 rfl rfl)
theorem dX2_root_30 : decode cX2_root 30 = .ok (.idiv, 1) := dk_108 (dk_at dksX2_root_1 6 rfl rfl)
theorem dX2_root_31 : decode cX2_root 31 = .ok (.istore_n 2, 1) := dk_61 (dk_at dksX2_root_1 7 rfl rfl)
theorem dX2_root_32 : decode cX2_root 32 = .ok (.goto (-26), 3) := dk_167 255 230 (dk_at dksX2_root_1 8 rfl rfl)
theorem dX2_root_35 : decode cX2_root 35 = .ok (.iload_n 1, 1) := dk_27 (dk_at dksX2_root_1 11 rfl rfl)
theorem dX2_root_36 : decode cX2_root 36 = .ok (.ireturn, 1) := dk_172 (dk_at dksX2_root_1 12 rfl rfl)
abbrev cX2_records : ByteArray := prog_15_method_50_code
def yX2_records : MethodName := ⟨RX2, "records", "([I)V"⟩
def dkwX2_records_3 : List UInt8 := [29, 182, 1, 42, 182, 1, 45, 79, 132, 3, 1, 167, 255, 222, 132, 2, 1, 167, 255, 173, 177]
abbrev dktX2_records_3 : List UInt8 := dkwX2_records_3 ++ []
def dkwX2_records_2 : List UInt8 := [62, 29, 42, 180, 0, 17, 5, 46, 162, 0, 30, 43, 16, 55, 17, 0, 200, 28, 104, 96, 29, 96, 42, 42]
abbrev dktX2_records_2 : List UInt8 := dkwX2_records_2 ++ dktX2_records_3
def dkwX2_records_1 : List UInt8 := [46, 162, 0, 22, 42, 180, 0, 48, 29, 42, 43, 28, 29, 182, 1, 38, 79, 132, 3, 1, 167, 255, 230, 3]
abbrev dktX2_records_1 : List UInt8 := dkwX2_records_1 ++ dktX2_records_2
def dkwX2_records_0 : List UInt8 := [43, 3, 3, 79, 3, 61, 28, 42, 180, 0, 17, 7, 46, 162, 0, 79, 3, 62, 29, 42, 180, 0, 17, 5]
abbrev dktX2_records_0 : List UInt8 := dkwX2_records_0 ++ dktX2_records_1
theorem dksX2_records_0 : cX2_records.data.toList.drop 0 = dktX2_records_0 := by decide +kernel
theorem dksX2_records_1 : cX2_records.data.toList.drop 24 = dktX2_records_1 := dk_seg dksX2_records_0 24 rfl rfl
theorem dksX2_records_2 : cX2_records.data.toList.drop 48 = dktX2_records_2 := dk_seg dksX2_records_1 24 rfl rfl
theorem dksX2_records_3 : cX2_records.data.toList.drop 72 = dktX2_records_3 := dk_seg dksX2_records_2 24 rfl rfl
theorem dX2_records_0 : decode cX2_records 0 = .ok (.aload_n 1, 1) := dk_43 (dk_at dksX2_records_0 0 rfl rfl)
theorem dX2_records_1 : decode cX2_records 1 = .ok (.iconst 0, 1) := dk_3 (dk_at dksX2_records_0 1 rfl rfl)
theorem dX2_records_2 : decode cX2_records 2 = .ok (.iconst 0, 1) := dk_3 (dk_at dksX2_records_0 2 rfl rfl)
theorem dX2_records_3 : decode cX2_records 3 = .ok (.iastore, 1) := dk_79 (dk_at dksX2_records_0 3 rfl rfl)
theorem dX2_records_4 : decode cX2_records 4 = .ok (.iconst 0, 1) := dk_3 (dk_at dksX2_records_0 4 rfl rfl)
theorem dX2_records_5 : decode cX2_records 5 = .ok (.istore_n 2, 1) := dk_61 (dk_at dksX2_records_0 5 rfl rfl)
theorem dX2_records_6 : decode cX2_records 6 = .ok (.iload_n 2, 1) := dk_28 (dk_at dksX2_records_0 6 rfl rfl)
theorem dX2_records_7 : decode cX2_records 7 = .ok (.aload_n 0, 1) := dk_42 (dk_at dksX2_records_0 7 rfl rfl)
theorem dX2_records_8 : decode cX2_records 8 = .ok (.getfield 17, 3) := dk_180 0 17 (dk_at dksX2_records_0 8 rfl rfl)
theorem dX2_records_11 : decode cX2_records 11 = .ok (.iconst 4, 1) := dk_7 (dk_at dksX2_records_0 11 rfl rfl)
theorem dX2_records_12 : decode cX2_records 12 = .ok (.iaload, 1) := dk_46 (dk_at dksX2_records_0 12 rfl rfl)
theorem dX2_records_13 : decode cX2_records 13 = .ok (.if_icmp .ge 79, 3) := dk_162 0 79 (dk_at dksX2_records_0 13 rfl rfl)
theorem dX2_records_16 : decode cX2_records 16 = .ok (.iconst 0, 1) := dk_3 (dk_at dksX2_records_0 16 rfl rfl)
theorem dX2_records_17 : decode cX2_records 17 = .ok (.istore_n 3, 1) := dk_62 (dk_at dksX2_records_0 17 rfl rfl)
theorem dX2_records_18 : decode cX2_records 18 = .ok (.iload_n 3, 1) := dk_29 (dk_at dksX2_records_0 18 rfl rfl)
theorem dX2_records_19 : decode cX2_records 19 = .ok (.aload_n 0, 1) := dk_42 (dk_at dksX2_records_0 19 rfl rfl)
theorem dX2_records_20 : decode cX2_records 20 = .ok (.getfield 17, 3) := dk_180 0 17 (dk_at dksX2_records_0 20 rfl rfl)
theorem dX2_records_23 : decode cX2_records 23 = .ok (.iconst 2, 1) := dk_5 (dk_at dksX2_records_0 23 rfl rfl)
theorem dX2_records_24 : decode cX2_records 24 = .ok (.iaload, 1) := dk_46 (dk_at dksX2_records_1 0 rfl rfl)
theorem dX2_records_25 : decode cX2_records 25 = .ok (.if_icmp .ge 22, 3) := dk_162 0 22 (dk_at dksX2_records_1 1 rfl rfl)
theorem dX2_records_28 : decode cX2_records 28 = .ok (.aload_n 0, 1) := dk_42 (dk_at dksX2_records_1 4 rfl rfl)
theorem dX2_records_29 : decode cX2_records 29 = .ok (.getfield 48, 3) := dk_180 0 48 (dk_at dksX2_records_1 5 rfl rfl)
theorem dX2_records_32 : decode cX2_records 32 = .ok (.iload_n 3, 1) := dk_29 (dk_at dksX2_records_1 8 rfl rfl)
theorem dX2_records_33 : decode cX2_records 33 = .ok (.aload_n 0, 1) := dk_42 (dk_at dksX2_records_1 9 rfl rfl)
theorem dX2_records_34 : decode cX2_records 34 = .ok (.aload_n 1, 1) := dk_43 (dk_at dksX2_records_1 10 rfl rfl)
theorem dX2_records_35 : decode cX2_records 35 = .ok (.iload_n 2, 1) := dk_28 (dk_at dksX2_records_1 11 rfl rfl)
theorem dX2_records_36 : decode cX2_records 36 = .ok (.iload_n 3, 1) := dk_29 (dk_at dksX2_records_1 12 rfl rfl)
theorem dX2_records_37 : decode cX2_records 37 = .ok (.invokevirtual 294, 3) := dk_182 1 38 (dk_at dksX2_records_1 13 rfl rfl)
theorem dX2_records_40 : decode cX2_records 40 = .ok (.iastore, 1) := dk_79 (dk_at dksX2_records_1 16 rfl rfl)
theorem dX2_records_41 : decode cX2_records 41 = .ok (.iinc 3 1, 3) := dk_132 3 1 (dk_at dksX2_records_1 17 rfl rfl)
theorem dX2_records_44 : decode cX2_records 44 = .ok (.goto (-26), 3) := dk_167 255 230 (dk_at dksX2_records_1 20 rfl rfl)
theorem dX2_records_47 : decode cX2_records 47 = .ok (.iconst 0, 1) := dk_3 (dk_at dksX2_records_1 23 rfl rfl)
theorem dX2_records_48 : decode cX2_records 48 = .ok (.istore_n 3, 1) := dk_62 (dk_at dksX2_records_2 0 rfl rfl)
theorem dX2_records_49 : decode cX2_records 49 = .ok (.iload_n 3, 1) := dk_29 (dk_at dksX2_records_2 1 rfl rfl)
theorem dX2_records_50 : decode cX2_records 50 = .ok (.aload_n 0, 1) := dk_42 (dk_at dksX2_records_2 2 rfl rfl)
theorem dX2_records_51 : decode cX2_records 51 = .ok (.getfield 17, 3) := dk_180 0 17 (dk_at dksX2_records_2 3 rfl rfl)
theorem dX2_records_54 : decode cX2_records 54 = .ok (.iconst 2, 1) := dk_5 (dk_at dksX2_records_2 6 rfl rfl)
theorem dX2_records_55 : decode cX2_records 55 = .ok (.iaload, 1) := dk_46 (dk_at dksX2_records_2 7 rfl rfl)
theorem dX2_records_56 : decode cX2_records 56 = .ok (.if_icmp .ge 30, 3) := dk_162 0 30 (dk_at dksX2_records_2 8 rfl rfl)
theorem dX2_records_59 : decode cX2_records 59 = .ok (.aload_n 1, 1) := dk_43 (dk_at dksX2_records_2 11 rfl rfl)
theorem dX2_records_60 : decode cX2_records 60 = .ok (.bipush 55, 2) := dk_16 55 (dk_at dksX2_records_2 12 rfl rfl)
theorem dX2_records_62 : decode cX2_records 62 = .ok (.sipush 200, 3) := dk_17 0 200 (dk_at dksX2_records_2 14 rfl rfl)
theorem dX2_records_65 : decode cX2_records 65 = .ok (.iload_n 2, 1) := dk_28 (dk_at dksX2_records_2 17 rfl rfl)
theorem dX2_records_66 : decode cX2_records 66 = .ok (.imul, 1) := dk_104 (dk_at dksX2_records_2 18 rfl rfl)
theorem dX2_records_67 : decode cX2_records 67 = .ok (.iadd, 1) := dk_96 (dk_at dksX2_records_2 19 rfl rfl)
theorem dX2_records_68 : decode cX2_records 68 = .ok (.iload_n 3, 1) := dk_29 (dk_at dksX2_records_2 20 rfl rfl)
theorem dX2_records_69 : decode cX2_records 69 = .ok (.iadd, 1) := dk_96 (dk_at dksX2_records_2 21 rfl rfl)
theorem dX2_records_70 : decode cX2_records 70 = .ok (.aload_n 0, 1) := dk_42 (dk_at dksX2_records_2 22 rfl rfl)
theorem dX2_records_71 : decode cX2_records 71 = .ok (.aload_n 0, 1) := dk_42 (dk_at dksX2_records_2 23 rfl rfl)
theorem dX2_records_72 : decode cX2_records 72 = .ok (.iload_n 3, 1) := dk_29 (dk_at dksX2_records_3 0 rfl rfl)
theorem dX2_records_73 : decode cX2_records 73 = .ok (.invokevirtual 298, 3) := dk_182 1 42 (dk_at dksX2_records_3 1 rfl rfl)
theorem dX2_records_76 : decode cX2_records 76 = .ok (.invokevirtual 301, 3) := dk_182 1 45 (dk_at dksX2_records_3 4 rfl rfl)
theorem dX2_records_79 : decode cX2_records 79 = .ok (.iastore, 1) := dk_79 (dk_at dksX2_records_3 7 rfl rfl)
theorem dX2_records_80 : decode cX2_records 80 = .ok (.iinc 3 1, 3) := dk_132 3 1 (dk_at dksX2_records_3 8 rfl rfl)
theorem dX2_records_83 : decode cX2_records 83 = .ok (.goto (-34), 3) := dk_167 255 222 (dk_at dksX2_records_3 11 rfl rfl)
theorem dX2_records_86 : decode cX2_records 86 = .ok (.iinc 2 1, 3) := dk_132 2 1 (dk_at dksX2_records_3 14 rfl rfl)
theorem dX2_records_89 : decode cX2_records 89 = .ok (.goto (-83), 3) := dk_167 255 173 (dk_at dksX2_records_3 17 rfl rfl)
theorem dX2_records_92 : decode cX2_records 92 = .ok (.return_, 1) := dk_177 (dk_at dksX2_records_3 20 rfl rfl)
abbrev cX2_rawAt : ByteArray := prog_15_method_48_code
def yX2_rawAt : MethodName := ⟨RX2, "rawAt", "([III)I"⟩
def dkwX2_rawAt_6 : List UInt8 := [16, 35, 28, 96, 46, 21, 5, 104, 172]
abbrev dktX2_rawAt_6 : List UInt8 := dkwX2_rawAt_6 ++ []
def dkwX2_rawAt_5 : List UInt8 := [182, 1, 34, 21, 6, 21, 4, 182, 1, 31, 96, 54, 5, 132, 6, 1, 167, 255, 194, 42, 180, 0, 17]
abbrev dktX2_rawAt_5 : List UInt8 := dkwX2_rawAt_5 ++ dktX2_rawAt_6
def dkwX2_rawAt_4 : List UInt8 := [167, 0, 32, 42, 28, 42, 43, 21, 6, 3, 21, 4, 182, 1, 34, 42, 43, 21, 6, 4, 21, 4]
abbrev dktX2_rawAt_4 : List UInt8 := dkwX2_rawAt_4 ++ dktX2_rawAt_5
def dkwX2_rawAt_3 : List UInt8 := [21, 6, 42, 180, 0, 17, 8, 46, 162, 0, 57, 21, 5, 43, 16, 25, 21, 6, 96, 46, 154, 0, 7, 3]
abbrev dktX2_rawAt_3 : List UInt8 := dkwX2_rawAt_3 ++ dktX2_rawAt_4
def dkwX2_rawAt_2 : List UInt8 := [42, 42, 180, 0, 45, 4, 182, 0, 240, 3, 21, 4, 182, 1, 31, 104, 172, 3, 54, 5, 3, 54, 6]
abbrev dktX2_rawAt_2 : List UInt8 := dkwX2_rawAt_2 ++ dktX2_rawAt_3
def dkwX2_rawAt_1 : List UInt8 := [2, 159, 0, 40, 42, 180, 0, 17, 16, 35, 28, 96, 46, 42, 28, 42, 42, 180, 0, 45, 3, 182, 0, 240]
abbrev dktX2_rawAt_1 : List UInt8 := dkwX2_rawAt_1 ++ dktX2_rawAt_2
def dkwX2_rawAt_0 : List UInt8 := [29, 42, 180, 0, 17, 16, 83, 28, 96, 46, 100, 54, 4, 21, 4, 156, 0, 5, 3, 172, 42, 180, 0, 45]
abbrev dktX2_rawAt_0 : List UInt8 := dkwX2_rawAt_0 ++ dktX2_rawAt_1
theorem dksX2_rawAt_0 : cX2_rawAt.data.toList.drop 0 = dktX2_rawAt_0 := by decide +kernel
theorem dksX2_rawAt_1 : cX2_rawAt.data.toList.drop 24 = dktX2_rawAt_1 := dk_seg dksX2_rawAt_0 24 rfl rfl
theorem dksX2_rawAt_2 : cX2_rawAt.data.toList.drop 48 = dktX2_rawAt_2 := dk_seg dksX2_rawAt_1 24 rfl rfl
theorem dksX2_rawAt_3 : cX2_rawAt.data.toList.drop 71 = dktX2_rawAt_3 := dk_seg dksX2_rawAt_2 23 rfl rfl
theorem dksX2_rawAt_4 : cX2_rawAt.data.toList.drop 95 = dktX2_rawAt_4 := dk_seg dksX2_rawAt_3 24 rfl rfl
theorem dksX2_rawAt_5 : cX2_rawAt.data.toList.drop 117 = dktX2_rawAt_5 := dk_seg dksX2_rawAt_4 22 rfl rfl
theorem dksX2_rawAt_6 : cX2_rawAt.data.toList.drop 140 = dktX2_rawAt_6 := dk_seg dksX2_rawAt_5 23 rfl rfl
theorem dX2_rawAt_0 : decode cX2_rawAt 0 = .ok (.iload_n 3, 1) := dk_29 (dk_at dksX2_rawAt_0 0 rfl rfl)
theorem dX2_rawAt_1 : decode cX2_rawAt 1 = .ok (.aload_n 0, 1) := dk_42 (dk_at dksX2_rawAt_0 1 rfl rfl)
theorem dX2_rawAt_2 : decode cX2_rawAt 2 = .ok (.getfield 17, 3) := dk_180 0 17 (dk_at dksX2_rawAt_0 2 rfl rfl)
theorem dX2_rawAt_5 : decode cX2_rawAt 5 = .ok (.bipush 83, 2) := dk_16 83 (dk_at dksX2_rawAt_0 5 rfl rfl)
theorem dX2_rawAt_7 : decode cX2_rawAt 7 = .ok (.iload_n 2, 1) := dk_28 (dk_at dksX2_rawAt_0 7 rfl rfl)
theorem dX2_rawAt_8 : decode cX2_rawAt 8 = .ok (.iadd, 1) := dk_96 (dk_at dksX2_rawAt_0 8 rfl rfl)
theorem dX2_rawAt_9 : decode cX2_rawAt 9 = .ok (.iaload, 1) := dk_46 (dk_at dksX2_rawAt_0 9 rfl rfl)
theorem dX2_rawAt_10 : decode cX2_rawAt 10 = .ok (.isub, 1) := dk_100 (dk_at dksX2_rawAt_0 10 rfl rfl)
theorem dX2_rawAt_11 : decode cX2_rawAt 11 = .ok (.istore 4, 2) := dk_54 4 (dk_at dksX2_rawAt_0 11 rfl rfl)
theorem dX2_rawAt_13 : decode cX2_rawAt 13 = .ok (.iload 4, 2) := dk_21 4 (dk_at dksX2_rawAt_0 13 rfl rfl)
theorem dX2_rawAt_15 : decode cX2_rawAt 15 = .ok (.ifCond .ge 5, 3) := dk_156 0 5 (dk_at dksX2_rawAt_0 15 rfl rfl)
theorem dX2_rawAt_18 : decode cX2_rawAt 18 = .ok (.iconst 0, 1) := dk_3 (dk_at dksX2_rawAt_0 18 rfl rfl)
theorem dX2_rawAt_19 : decode cX2_rawAt 19 = .ok (.ireturn, 1) := dk_172 (dk_at dksX2_rawAt_0 19 rfl rfl)
theorem dX2_rawAt_20 : decode cX2_rawAt 20 = .ok (.aload_n 0, 1) := dk_42 (dk_at dksX2_rawAt_0 20 rfl rfl)
theorem dX2_rawAt_21 : decode cX2_rawAt 21 = .ok (.getfield 45, 3) := dk_180 0 45 (dk_at dksX2_rawAt_0 21 rfl rfl)
theorem dX2_rawAt_24 : decode cX2_rawAt 24 = .ok (.iconst (-1), 1) := dk_2 (dk_at dksX2_rawAt_1 0 rfl rfl)
theorem dX2_rawAt_25 : decode cX2_rawAt 25 = .ok (.if_icmp .eq 40, 3) := dk_159 0 40 (dk_at dksX2_rawAt_1 1 rfl rfl)
theorem dX2_rawAt_28 : decode cX2_rawAt 28 = .ok (.aload_n 0, 1) := dk_42 (dk_at dksX2_rawAt_1 4 rfl rfl)
theorem dX2_rawAt_29 : decode cX2_rawAt 29 = .ok (.getfield 17, 3) := dk_180 0 17 (dk_at dksX2_rawAt_1 5 rfl rfl)
theorem dX2_rawAt_32 : decode cX2_rawAt 32 = .ok (.bipush 35, 2) := dk_16 35 (dk_at dksX2_rawAt_1 8 rfl rfl)
theorem dX2_rawAt_34 : decode cX2_rawAt 34 = .ok (.iload_n 2, 1) := dk_28 (dk_at dksX2_rawAt_1 10 rfl rfl)
theorem dX2_rawAt_35 : decode cX2_rawAt 35 = .ok (.iadd, 1) := dk_96 (dk_at dksX2_rawAt_1 11 rfl rfl)
theorem dX2_rawAt_36 : decode cX2_rawAt 36 = .ok (.iaload, 1) := dk_46 (dk_at dksX2_rawAt_1 12 rfl rfl)
theorem dX2_rawAt_37 : decode cX2_rawAt 37 = .ok (.aload_n 0, 1) := dk_42 (dk_at dksX2_rawAt_1 13 rfl rfl)
theorem dX2_rawAt_38 : decode cX2_rawAt 38 = .ok (.iload_n 2, 1) := dk_28 (dk_at dksX2_rawAt_1 14 rfl rfl)
theorem dX2_rawAt_39 : decode cX2_rawAt 39 = .ok (.aload_n 0, 1) := dk_42 (dk_at dksX2_rawAt_1 15 rfl rfl)
theorem dX2_rawAt_40 : decode cX2_rawAt 40 = .ok (.aload_n 0, 1) := dk_42 (dk_at dksX2_rawAt_1 16 rfl rfl)
theorem dX2_rawAt_41 : decode cX2_rawAt 41 = .ok (.getfield 45, 3) := dk_180 0 45 (dk_at dksX2_rawAt_1 17 rfl rfl)
theorem dX2_rawAt_44 : decode cX2_rawAt 44 = .ok (.iconst 0, 1) := dk_3 (dk_at dksX2_rawAt_1 20 rfl rfl)
theorem dX2_rawAt_45 : decode cX2_rawAt 45 = .ok (.invokevirtual 240, 3) := dk_182 0 240 (dk_at dksX2_rawAt_1 21 rfl rfl)
theorem dX2_rawAt_48 : decode cX2_rawAt 48 = .ok (.aload_n 0, 1) := dk_42 (dk_at dksX2_rawAt_2 0 rfl rfl)
theorem dX2_rawAt_49 : decode cX2_rawAt 49 = .ok (.aload_n 0, 1) := dk_42 (dk_at dksX2_rawAt_2 1 rfl rfl)
theorem dX2_rawAt_50 : decode cX2_rawAt 50 = .ok (.getfield 45, 3) := dk_180 0 45 (dk_at dksX2_rawAt_2 2 rfl rfl)
theorem dX2_rawAt_53 : decode cX2_rawAt 53 = .ok (.iconst 1, 1) := dk_4 (dk_at dksX2_rawAt_2 5 rfl rfl)
theorem dX2_rawAt_54 : decode cX2_rawAt 54 = .ok (.invokevirtual 240, 3) := dk_182 0 240 (dk_at dksX2_rawAt_2 6 rfl rfl)
theorem dX2_rawAt_57 : decode cX2_rawAt 57 = .ok (.iconst 0, 1) := dk_3 (dk_at dksX2_rawAt_2 9 rfl rfl)
theorem dX2_rawAt_58 : decode cX2_rawAt 58 = .ok (.iload 4, 2) := dk_21 4 (dk_at dksX2_rawAt_2 10 rfl rfl)
theorem dX2_rawAt_60 : decode cX2_rawAt 60 = .ok (.invokevirtual 287, 3) := dk_182 1 31 (dk_at dksX2_rawAt_2 12 rfl rfl)
theorem dX2_rawAt_63 : decode cX2_rawAt 63 = .ok (.imul, 1) := dk_104 (dk_at dksX2_rawAt_2 15 rfl rfl)
theorem dX2_rawAt_64 : decode cX2_rawAt 64 = .ok (.ireturn, 1) := dk_172 (dk_at dksX2_rawAt_2 16 rfl rfl)
theorem dX2_rawAt_65 : decode cX2_rawAt 65 = .ok (.iconst 0, 1) := dk_3 (dk_at dksX2_rawAt_2 17 rfl rfl)
theorem dX2_rawAt_66 : decode cX2_rawAt 66 = .ok (.istore 5, 2) := dk_54 5 (dk_at dksX2_rawAt_2 18 rfl rfl)
theorem dX2_rawAt_68 : decode cX2_rawAt 68 = .ok (.iconst 0, 1) := dk_3 (dk_at dksX2_rawAt_2 20 rfl rfl)
theorem dX2_rawAt_69 : decode cX2_rawAt 69 = .ok (.istore 6, 2) := dk_54 6 (dk_at dksX2_rawAt_2 21 rfl rfl)
theorem dX2_rawAt_71 : decode cX2_rawAt 71 = .ok (.iload 6, 2) := dk_21 6 (dk_at dksX2_rawAt_3 0 rfl rfl)
theorem dX2_rawAt_73 : decode cX2_rawAt 73 = .ok (.aload_n 0, 1) := dk_42 (dk_at dksX2_rawAt_3 2 rfl rfl)
theorem dX2_rawAt_74 : decode cX2_rawAt 74 = .ok (.getfield 17, 3) := dk_180 0 17 (dk_at dksX2_rawAt_3 3 rfl rfl)
theorem dX2_rawAt_77 : decode cX2_rawAt 77 = .ok (.iconst 5, 1) := dk_8 (dk_at dksX2_rawAt_3 6 rfl rfl)
theorem dX2_rawAt_78 : decode cX2_rawAt 78 = .ok (.iaload, 1) := dk_46 (dk_at dksX2_rawAt_3 7 rfl rfl)
theorem dX2_rawAt_79 : decode cX2_rawAt 79 = .ok (.if_icmp .ge 57, 3) := dk_162 0 57 (dk_at dksX2_rawAt_3 8 rfl rfl)
theorem dX2_rawAt_82 : decode cX2_rawAt 82 = .ok (.iload 5, 2) := dk_21 5 (dk_at dksX2_rawAt_3 11 rfl rfl)
theorem dX2_rawAt_84 : decode cX2_rawAt 84 = .ok (.aload_n 1, 1) := dk_43 (dk_at dksX2_rawAt_3 13 rfl rfl)
theorem dX2_rawAt_85 : decode cX2_rawAt 85 = .ok (.bipush 25, 2) := dk_16 25 (dk_at dksX2_rawAt_3 14 rfl rfl)
theorem dX2_rawAt_87 : decode cX2_rawAt 87 = .ok (.iload 6, 2) := dk_21 6 (dk_at dksX2_rawAt_3 16 rfl rfl)
theorem dX2_rawAt_89 : decode cX2_rawAt 89 = .ok (.iadd, 1) := dk_96 (dk_at dksX2_rawAt_3 18 rfl rfl)
theorem dX2_rawAt_90 : decode cX2_rawAt 90 = .ok (.iaload, 1) := dk_46 (dk_at dksX2_rawAt_3 19 rfl rfl)
theorem dX2_rawAt_91 : decode cX2_rawAt 91 = .ok (.ifCond .ne 7, 3) := dk_154 0 7 (dk_at dksX2_rawAt_3 20 rfl rfl)
theorem dX2_rawAt_94 : decode cX2_rawAt 94 = .ok (.iconst 0, 1) := dk_3 (dk_at dksX2_rawAt_3 23 rfl rfl)
theorem dX2_rawAt_95 : decode cX2_rawAt 95 = .ok (.goto 32, 3) := dk_167 0 32 (dk_at dksX2_rawAt_4 0 rfl rfl)
theorem dX2_rawAt_98 : decode cX2_rawAt 98 = .ok (.aload_n 0, 1) := dk_42 (dk_at dksX2_rawAt_4 3 rfl rfl)
theorem dX2_rawAt_99 : decode cX2_rawAt 99 = .ok (.iload_n 2, 1) := dk_28 (dk_at dksX2_rawAt_4 4 rfl rfl)
theorem dX2_rawAt_100 : decode cX2_rawAt 100 = .ok (.aload_n 0, 1) := dk_42 (dk_at dksX2_rawAt_4 5 rfl rfl)
theorem dX2_rawAt_101 : decode cX2_rawAt 101 = .ok (.aload_n 1, 1) := dk_43 (dk_at dksX2_rawAt_4 6 rfl rfl)
theorem dX2_rawAt_102 : decode cX2_rawAt 102 = .ok (.iload 6, 2) := dk_21 6 (dk_at dksX2_rawAt_4 7 rfl rfl)
theorem dX2_rawAt_104 : decode cX2_rawAt 104 = .ok (.iconst 0, 1) := dk_3 (dk_at dksX2_rawAt_4 9 rfl rfl)
theorem dX2_rawAt_105 : decode cX2_rawAt 105 = .ok (.iload 4, 2) := dk_21 4 (dk_at dksX2_rawAt_4 10 rfl rfl)
theorem dX2_rawAt_107 : decode cX2_rawAt 107 = .ok (.invokevirtual 290, 3) := dk_182 1 34 (dk_at dksX2_rawAt_4 12 rfl rfl)
theorem dX2_rawAt_110 : decode cX2_rawAt 110 = .ok (.aload_n 0, 1) := dk_42 (dk_at dksX2_rawAt_4 15 rfl rfl)
theorem dX2_rawAt_111 : decode cX2_rawAt 111 = .ok (.aload_n 1, 1) := dk_43 (dk_at dksX2_rawAt_4 16 rfl rfl)
theorem dX2_rawAt_112 : decode cX2_rawAt 112 = .ok (.iload 6, 2) := dk_21 6 (dk_at dksX2_rawAt_4 17 rfl rfl)
theorem dX2_rawAt_114 : decode cX2_rawAt 114 = .ok (.iconst 1, 1) := dk_4 (dk_at dksX2_rawAt_4 19 rfl rfl)
theorem dX2_rawAt_115 : decode cX2_rawAt 115 = .ok (.iload 4, 2) := dk_21 4 (dk_at dksX2_rawAt_4 20 rfl rfl)
theorem dX2_rawAt_117 : decode cX2_rawAt 117 = .ok (.invokevirtual 290, 3) := dk_182 1 34 (dk_at dksX2_rawAt_5 0 rfl rfl)
theorem dX2_rawAt_120 : decode cX2_rawAt 120 = .ok (.iload 6, 2) := dk_21 6 (dk_at dksX2_rawAt_5 3 rfl rfl)
theorem dX2_rawAt_122 : decode cX2_rawAt 122 = .ok (.iload 4, 2) := dk_21 4 (dk_at dksX2_rawAt_5 5 rfl rfl)
theorem dX2_rawAt_124 : decode cX2_rawAt 124 = .ok (.invokevirtual 287, 3) := dk_182 1 31 (dk_at dksX2_rawAt_5 7 rfl rfl)
theorem dX2_rawAt_127 : decode cX2_rawAt 127 = .ok (.iadd, 1) := dk_96 (dk_at dksX2_rawAt_5 10 rfl rfl)
theorem dX2_rawAt_128 : decode cX2_rawAt 128 = .ok (.istore 5, 2) := dk_54 5 (dk_at dksX2_rawAt_5 11 rfl rfl)
theorem dX2_rawAt_130 : decode cX2_rawAt 130 = .ok (.iinc 6 1, 3) := dk_132 6 1 (dk_at dksX2_rawAt_5 13 rfl rfl)
theorem dX2_rawAt_133 : decode cX2_rawAt 133 = .ok (.goto (-62), 3) := dk_167 255 194 (dk_at dksX2_rawAt_5 16 rfl rfl)
theorem dX2_rawAt_136 : decode cX2_rawAt 136 = .ok (.aload_n 0, 1) := dk_42 (dk_at dksX2_rawAt_5 19 rfl rfl)
theorem dX2_rawAt_137 : decode cX2_rawAt 137 = .ok (.getfield 17, 3) := dk_180 0 17 (dk_at dksX2_rawAt_5 20 rfl rfl)
theorem dX2_rawAt_140 : decode cX2_rawAt 140 = .ok (.bipush 35, 2) := dk_16 35 (dk_at dksX2_rawAt_6 0 rfl rfl)
theorem dX2_rawAt_142 : decode cX2_rawAt 142 = .ok (.iload_n 2, 1) := dk_28 (dk_at dksX2_rawAt_6 2 rfl rfl)
theorem dX2_rawAt_143 : decode cX2_rawAt 143 = .ok (.iadd, 1) := dk_96 (dk_at dksX2_rawAt_6 3 rfl rfl)
theorem dX2_rawAt_144 : decode cX2_rawAt 144 = .ok (.iaload, 1) := dk_46 (dk_at dksX2_rawAt_6 4 rfl rfl)
theorem dX2_rawAt_145 : decode cX2_rawAt 145 = .ok (.iload 5, 2) := dk_21 5 (dk_at dksX2_rawAt_6 5 rfl rfl)
theorem dX2_rawAt_147 : decode cX2_rawAt 147 = .ok (.imul, 1) := dk_104 (dk_at dksX2_rawAt_6 7 rfl rfl)
theorem dX2_rawAt_148 : decode cX2_rawAt 148 = .ok (.ireturn, 1) := dk_172 (dk_at dksX2_rawAt_6 8 rfl rfl)
abbrev cX2_heardOf : ByteArray := prog_15_method_47_code
def yX2_heardOf : MethodName := ⟨RX2, "heardOf", "(IIIII)I"⟩
def dkwX2_heardOf_3 : List UInt8 := [132, 7, 1, 167, 255, 198, 21, 6, 172]
abbrev dktX2_heardOf_3 : List UInt8 := dkwX2_heardOf_3 ++ []
def dkwX2_heardOf_2 : List UInt8 := [21, 4, 21, 5, 182, 1, 27, 42, 180, 0, 17, 16, 74, 21, 7, 96, 46, 104, 16, 100, 108, 96, 54, 6]
abbrev dktX2_heardOf_2 : List UInt8 := dkwX2_heardOf_2 ++ dktX2_heardOf_3
def dkwX2_heardOf_1 : List UInt8 := [46, 162, 0, 52, 21, 6, 42, 27, 5, 42, 180, 0, 17, 16, 72, 21, 7, 96, 46, 104, 28, 100, 29]
abbrev dktX2_heardOf_1 : List UInt8 := dkwX2_heardOf_1 ++ dktX2_heardOf_2
def dkwX2_heardOf_0 : List UInt8 := [42, 27, 28, 29, 21, 4, 21, 5, 182, 1, 27, 54, 6, 3, 54, 7, 21, 7, 42, 180, 0, 17, 16, 71]
abbrev dktX2_heardOf_0 : List UInt8 := dkwX2_heardOf_0 ++ dktX2_heardOf_1
theorem dksX2_heardOf_0 : cX2_heardOf.data.toList.drop 0 = dktX2_heardOf_0 := by decide +kernel
theorem dksX2_heardOf_1 : cX2_heardOf.data.toList.drop 24 = dktX2_heardOf_1 := dk_seg dksX2_heardOf_0 24 rfl rfl
theorem dksX2_heardOf_2 : cX2_heardOf.data.toList.drop 47 = dktX2_heardOf_2 := dk_seg dksX2_heardOf_1 23 rfl rfl
theorem dksX2_heardOf_3 : cX2_heardOf.data.toList.drop 71 = dktX2_heardOf_3 := dk_seg dksX2_heardOf_2 24 rfl rfl
theorem dX2_heardOf_0 : decode cX2_heardOf 0 = .ok (.aload_n 0, 1) := dk_42 (dk_at dksX2_heardOf_0 0 rfl rfl)
theorem dX2_heardOf_1 : decode cX2_heardOf 1 = .ok (.iload_n 1, 1) := dk_27 (dk_at dksX2_heardOf_0 1 rfl rfl)
theorem dX2_heardOf_2 : decode cX2_heardOf 2 = .ok (.iload_n 2, 1) := dk_28 (dk_at dksX2_heardOf_0 2 rfl rfl)
theorem dX2_heardOf_3 : decode cX2_heardOf 3 = .ok (.iload_n 3, 1) := dk_29 (dk_at dksX2_heardOf_0 3 rfl rfl)
theorem dX2_heardOf_4 : decode cX2_heardOf 4 = .ok (.iload 4, 2) := dk_21 4 (dk_at dksX2_heardOf_0 4 rfl rfl)
theorem dX2_heardOf_6 : decode cX2_heardOf 6 = .ok (.iload 5, 2) := dk_21 5 (dk_at dksX2_heardOf_0 6 rfl rfl)
theorem dX2_heardOf_8 : decode cX2_heardOf 8 = .ok (.invokevirtual 283, 3) := dk_182 1 27 (dk_at dksX2_heardOf_0 8 rfl rfl)
theorem dX2_heardOf_11 : decode cX2_heardOf 11 = .ok (.istore 6, 2) := dk_54 6 (dk_at dksX2_heardOf_0 11 rfl rfl)
theorem dX2_heardOf_13 : decode cX2_heardOf 13 = .ok (.iconst 0, 1) := dk_3 (dk_at dksX2_heardOf_0 13 rfl rfl)
theorem dX2_heardOf_14 : decode cX2_heardOf 14 = .ok (.istore 7, 2) := dk_54 7 (dk_at dksX2_heardOf_0 14 rfl rfl)
theorem dX2_heardOf_16 : decode cX2_heardOf 16 = .ok (.iload 7, 2) := dk_21 7 (dk_at dksX2_heardOf_0 16 rfl rfl)
theorem dX2_heardOf_18 : decode cX2_heardOf 18 = .ok (.aload_n 0, 1) := dk_42 (dk_at dksX2_heardOf_0 18 rfl rfl)
theorem dX2_heardOf_19 : decode cX2_heardOf 19 = .ok (.getfield 17, 3) := dk_180 0 17 (dk_at dksX2_heardOf_0 19 rfl rfl)
theorem dX2_heardOf_22 : decode cX2_heardOf 22 = .ok (.bipush 71, 2) := dk_16 71 (dk_at dksX2_heardOf_0 22 rfl rfl)
theorem dX2_heardOf_24 : decode cX2_heardOf 24 = .ok (.iaload, 1) := dk_46 (dk_at dksX2_heardOf_1 0 rfl rfl)
theorem dX2_heardOf_25 : decode cX2_heardOf 25 = .ok (.if_icmp .ge 52, 3) := dk_162 0 52 (dk_at dksX2_heardOf_1 1 rfl rfl)
theorem dX2_heardOf_28 : decode cX2_heardOf 28 = .ok (.iload 6, 2) := dk_21 6 (dk_at dksX2_heardOf_1 4 rfl rfl)
theorem dX2_heardOf_30 : decode cX2_heardOf 30 = .ok (.aload_n 0, 1) := dk_42 (dk_at dksX2_heardOf_1 6 rfl rfl)
theorem dX2_heardOf_31 : decode cX2_heardOf 31 = .ok (.iload_n 1, 1) := dk_27 (dk_at dksX2_heardOf_1 7 rfl rfl)
theorem dX2_heardOf_32 : decode cX2_heardOf 32 = .ok (.iconst 2, 1) := dk_5 (dk_at dksX2_heardOf_1 8 rfl rfl)
theorem dX2_heardOf_33 : decode cX2_heardOf 33 = .ok (.aload_n 0, 1) := dk_42 (dk_at dksX2_heardOf_1 9 rfl rfl)
theorem dX2_heardOf_34 : decode cX2_heardOf 34 = .ok (.getfield 17, 3) := dk_180 0 17 (dk_at dksX2_heardOf_1 10 rfl rfl)
theorem dX2_heardOf_37 : decode cX2_heardOf 37 = .ok (.bipush 72, 2) := dk_16 72 (dk_at dksX2_heardOf_1 13 rfl rfl)
theorem dX2_heardOf_39 : decode cX2_heardOf 39 = .ok (.iload 7, 2) := dk_21 7 (dk_at dksX2_heardOf_1 15 rfl rfl)
theorem dX2_heardOf_41 : decode cX2_heardOf 41 = .ok (.iadd, 1) := dk_96 (dk_at dksX2_heardOf_1 17 rfl rfl)
theorem dX2_heardOf_42 : decode cX2_heardOf 42 = .ok (.iaload, 1) := dk_46 (dk_at dksX2_heardOf_1 18 rfl rfl)
theorem dX2_heardOf_43 : decode cX2_heardOf 43 = .ok (.imul, 1) := dk_104 (dk_at dksX2_heardOf_1 19 rfl rfl)
theorem dX2_heardOf_44 : decode cX2_heardOf 44 = .ok (.iload_n 2, 1) := dk_28 (dk_at dksX2_heardOf_1 20 rfl rfl)
theorem dX2_heardOf_45 : decode cX2_heardOf 45 = .ok (.isub, 1) := dk_100 (dk_at dksX2_heardOf_1 21 rfl rfl)
theorem dX2_heardOf_46 : decode cX2_heardOf 46 = .ok (.iload_n 3, 1) := dk_29 (dk_at dksX2_heardOf_1 22 rfl rfl)
theorem dX2_heardOf_47 : decode cX2_heardOf 47 = .ok (.iload 4, 2) := dk_21 4 (dk_at dksX2_heardOf_2 0 rfl rfl)
theorem dX2_heardOf_49 : decode cX2_heardOf 49 = .ok (.iload 5, 2) := dk_21 5 (dk_at dksX2_heardOf_2 2 rfl rfl)
theorem dX2_heardOf_51 : decode cX2_heardOf 51 = .ok (.invokevirtual 283, 3) := dk_182 1 27 (dk_at dksX2_heardOf_2 4 rfl rfl)
theorem dX2_heardOf_54 : decode cX2_heardOf 54 = .ok (.aload_n 0, 1) := dk_42 (dk_at dksX2_heardOf_2 7 rfl rfl)
theorem dX2_heardOf_55 : decode cX2_heardOf 55 = .ok (.getfield 17, 3) := dk_180 0 17 (dk_at dksX2_heardOf_2 8 rfl rfl)
theorem dX2_heardOf_58 : decode cX2_heardOf 58 = .ok (.bipush 74, 2) := dk_16 74 (dk_at dksX2_heardOf_2 11 rfl rfl)
theorem dX2_heardOf_60 : decode cX2_heardOf 60 = .ok (.iload 7, 2) := dk_21 7 (dk_at dksX2_heardOf_2 13 rfl rfl)
theorem dX2_heardOf_62 : decode cX2_heardOf 62 = .ok (.iadd, 1) := dk_96 (dk_at dksX2_heardOf_2 15 rfl rfl)
theorem dX2_heardOf_63 : decode cX2_heardOf 63 = .ok (.iaload, 1) := dk_46 (dk_at dksX2_heardOf_2 16 rfl rfl)
theorem dX2_heardOf_64 : decode cX2_heardOf 64 = .ok (.imul, 1) := dk_104 (dk_at dksX2_heardOf_2 17 rfl rfl)
theorem dX2_heardOf_65 : decode cX2_heardOf 65 = .ok (.bipush 100, 2) := dk_16 100 (dk_at dksX2_heardOf_2 18 rfl rfl)
theorem dX2_heardOf_67 : decode cX2_heardOf 67 = .ok (.idiv, 1) := dk_108 (dk_at dksX2_heardOf_2 20 rfl rfl)
theorem dX2_heardOf_68 : decode cX2_heardOf 68 = .ok (.iadd, 1) := dk_96 (dk_at dksX2_heardOf_2 21 rfl rfl)
theorem dX2_heardOf_69 : decode cX2_heardOf 69 = .ok (.istore 6, 2) := dk_54 6 (dk_at dksX2_heardOf_2 22 rfl rfl)
theorem dX2_heardOf_71 : decode cX2_heardOf 71 = .ok (.iinc 7 1, 3) := dk_132 7 1 (dk_at dksX2_heardOf_3 0 rfl rfl)
theorem dX2_heardOf_74 : decode cX2_heardOf 74 = .ok (.goto (-58), 3) := dk_167 255 198 (dk_at dksX2_heardOf_3 3 rfl rfl)
theorem dX2_heardOf_77 : decode cX2_heardOf 77 = .ok (.iload 6, 2) := dk_21 6 (dk_at dksX2_heardOf_3 6 rfl rfl)
theorem dX2_heardOf_79 : decode cX2_heardOf 79 = .ok (.ireturn, 1) := dk_172 (dk_at dksX2_heardOf_3 8 rfl rfl)
abbrev cX2_heardFrom : ByteArray := prog_15_method_46_code
def yX2_heardFrom : MethodName := ⟨RX2, "heardFrom", "(IIIII)I"⟩
def dkwX2_heardFrom_3 : List UInt8 := [172]
abbrev dktX2_heardFrom_3 : List UInt8 := dkwX2_heardFrom_3 ++ []
def dkwX2_heardFrom_2 : List UInt8 := [167, 0, 24, 21, 7, 42, 180, 0, 17, 16, 76, 46, 104, 42, 180, 0, 17, 16, 76, 46, 21, 6, 96, 108]
abbrev dktX2_heardFrom_2 : List UInt8 := dkwX2_heardFrom_2 ++ dktX2_heardFrom_3
def dkwX2_heardFrom_1 : List UInt8 := [21, 5, 21, 6, 100, 182, 1, 24, 54, 7, 42, 180, 0, 17, 16, 76, 46, 154, 0, 8, 21, 7]
abbrev dktX2_heardFrom_1 : List UInt8 := dkwX2_heardFrom_1 ++ dktX2_heardFrom_2
def dkwX2_heardFrom_0 : List UInt8 := [42, 27, 28, 29, 182, 0, 243, 54, 6, 21, 5, 21, 6, 162, 0, 7, 3, 167, 0, 14, 42, 21, 4]
abbrev dktX2_heardFrom_0 : List UInt8 := dkwX2_heardFrom_0 ++ dktX2_heardFrom_1
theorem dksX2_heardFrom_0 : cX2_heardFrom.data.toList.drop 0 = dktX2_heardFrom_0 := by decide +kernel
theorem dksX2_heardFrom_1 : cX2_heardFrom.data.toList.drop 23 = dktX2_heardFrom_1 := dk_seg dksX2_heardFrom_0 23 rfl rfl
theorem dksX2_heardFrom_2 : cX2_heardFrom.data.toList.drop 45 = dktX2_heardFrom_2 := dk_seg dksX2_heardFrom_1 22 rfl rfl
theorem dksX2_heardFrom_3 : cX2_heardFrom.data.toList.drop 69 = dktX2_heardFrom_3 := dk_seg dksX2_heardFrom_2 24 rfl rfl
theorem dX2_heardFrom_0 : decode cX2_heardFrom 0 = .ok (.aload_n 0, 1) := dk_42 (dk_at dksX2_heardFrom_0 0 rfl rfl)
theorem dX2_heardFrom_1 : decode cX2_heardFrom 1 = .ok (.iload_n 1, 1) := dk_27 (dk_at dksX2_heardFrom_0 1 rfl rfl)
theorem dX2_heardFrom_2 : decode cX2_heardFrom 2 = .ok (.iload_n 2, 1) := dk_28 (dk_at dksX2_heardFrom_0 2 rfl rfl)
theorem dX2_heardFrom_3 : decode cX2_heardFrom 3 = .ok (.iload_n 3, 1) := dk_29 (dk_at dksX2_heardFrom_0 3 rfl rfl)
theorem dX2_heardFrom_4 : decode cX2_heardFrom 4 = .ok (.invokevirtual 243, 3) := dk_182 0 243 (dk_at dksX2_heardFrom_0 4 rfl rfl)
theorem dX2_heardFrom_7 : decode cX2_heardFrom 7 = .ok (.istore 6, 2) := dk_54 6 (dk_at dksX2_heardFrom_0 7 rfl rfl)
theorem dX2_heardFrom_9 : decode cX2_heardFrom 9 = .ok (.iload 5, 2) := dk_21 5 (dk_at dksX2_heardFrom_0 9 rfl rfl)
theorem dX2_heardFrom_11 : decode cX2_heardFrom 11 = .ok (.iload 6, 2) := dk_21 6 (dk_at dksX2_heardFrom_0 11 rfl rfl)
theorem dX2_heardFrom_13 : decode cX2_heardFrom 13 = .ok (.if_icmp .ge 7, 3) := dk_162 0 7 (dk_at dksX2_heardFrom_0 13 rfl rfl)
theorem dX2_heardFrom_16 : decode cX2_heardFrom 16 = .ok (.iconst 0, 1) := dk_3 (dk_at dksX2_heardFrom_0 16 rfl rfl)
theorem dX2_heardFrom_17 : decode cX2_heardFrom 17 = .ok (.goto 14, 3) := dk_167 0 14 (dk_at dksX2_heardFrom_0 17 rfl rfl)
theorem dX2_heardFrom_20 : decode cX2_heardFrom 20 = .ok (.aload_n 0, 1) := dk_42 (dk_at dksX2_heardFrom_0 20 rfl rfl)
theorem dX2_heardFrom_21 : decode cX2_heardFrom 21 = .ok (.iload 4, 2) := dk_21 4 (dk_at dksX2_heardFrom_0 21 rfl rfl)
theorem dX2_heardFrom_23 : decode cX2_heardFrom 23 = .ok (.iload 5, 2) := dk_21 5 (dk_at dksX2_heardFrom_1 0 rfl rfl)
theorem dX2_heardFrom_25 : decode cX2_heardFrom 25 = .ok (.iload 6, 2) := dk_21 6 (dk_at dksX2_heardFrom_1 2 rfl rfl)
theorem dX2_heardFrom_27 : decode cX2_heardFrom 27 = .ok (.isub, 1) := dk_100 (dk_at dksX2_heardFrom_1 4 rfl rfl)
theorem dX2_heardFrom_28 : decode cX2_heardFrom 28 = .ok (.invokevirtual 280, 3) := dk_182 1 24 (dk_at dksX2_heardFrom_1 5 rfl rfl)
theorem dX2_heardFrom_31 : decode cX2_heardFrom 31 = .ok (.istore 7, 2) := dk_54 7 (dk_at dksX2_heardFrom_1 8 rfl rfl)
theorem dX2_heardFrom_33 : decode cX2_heardFrom 33 = .ok (.aload_n 0, 1) := dk_42 (dk_at dksX2_heardFrom_1 10 rfl rfl)
theorem dX2_heardFrom_34 : decode cX2_heardFrom 34 = .ok (.getfield 17, 3) := dk_180 0 17 (dk_at dksX2_heardFrom_1 11 rfl rfl)
theorem dX2_heardFrom_37 : decode cX2_heardFrom 37 = .ok (.bipush 76, 2) := dk_16 76 (dk_at dksX2_heardFrom_1 14 rfl rfl)
theorem dX2_heardFrom_39 : decode cX2_heardFrom 39 = .ok (.iaload, 1) := dk_46 (dk_at dksX2_heardFrom_1 16 rfl rfl)
theorem dX2_heardFrom_40 : decode cX2_heardFrom 40 = .ok (.ifCond .ne 8, 3) := dk_154 0 8 (dk_at dksX2_heardFrom_1 17 rfl rfl)
theorem dX2_heardFrom_43 : decode cX2_heardFrom 43 = .ok (.iload 7, 2) := dk_21 7 (dk_at dksX2_heardFrom_1 20 rfl rfl)
theorem dX2_heardFrom_45 : decode cX2_heardFrom 45 = .ok (.goto 24, 3) := dk_167 0 24 (dk_at dksX2_heardFrom_2 0 rfl rfl)
theorem dX2_heardFrom_48 : decode cX2_heardFrom 48 = .ok (.iload 7, 2) := dk_21 7 (dk_at dksX2_heardFrom_2 3 rfl rfl)
theorem dX2_heardFrom_50 : decode cX2_heardFrom 50 = .ok (.aload_n 0, 1) := dk_42 (dk_at dksX2_heardFrom_2 5 rfl rfl)
theorem dX2_heardFrom_51 : decode cX2_heardFrom 51 = .ok (.getfield 17, 3) := dk_180 0 17 (dk_at dksX2_heardFrom_2 6 rfl rfl)
theorem dX2_heardFrom_54 : decode cX2_heardFrom 54 = .ok (.bipush 76, 2) := dk_16 76 (dk_at dksX2_heardFrom_2 9 rfl rfl)
theorem dX2_heardFrom_56 : decode cX2_heardFrom 56 = .ok (.iaload, 1) := dk_46 (dk_at dksX2_heardFrom_2 11 rfl rfl)
theorem dX2_heardFrom_57 : decode cX2_heardFrom 57 = .ok (.imul, 1) := dk_104 (dk_at dksX2_heardFrom_2 12 rfl rfl)
theorem dX2_heardFrom_58 : decode cX2_heardFrom 58 = .ok (.aload_n 0, 1) := dk_42 (dk_at dksX2_heardFrom_2 13 rfl rfl)
theorem dX2_heardFrom_59 : decode cX2_heardFrom 59 = .ok (.getfield 17, 3) := dk_180 0 17 (dk_at dksX2_heardFrom_2 14 rfl rfl)
theorem dX2_heardFrom_62 : decode cX2_heardFrom 62 = .ok (.bipush 76, 2) := dk_16 76 (dk_at dksX2_heardFrom_2 17 rfl rfl)
theorem dX2_heardFrom_64 : decode cX2_heardFrom 64 = .ok (.iaload, 1) := dk_46 (dk_at dksX2_heardFrom_2 19 rfl rfl)
theorem dX2_heardFrom_65 : decode cX2_heardFrom 65 = .ok (.iload 6, 2) := dk_21 6 (dk_at dksX2_heardFrom_2 20 rfl rfl)
theorem dX2_heardFrom_67 : decode cX2_heardFrom 67 = .ok (.iadd, 1) := dk_96 (dk_at dksX2_heardFrom_2 22 rfl rfl)
theorem dX2_heardFrom_68 : decode cX2_heardFrom 68 = .ok (.idiv, 1) := dk_108 (dk_at dksX2_heardFrom_2 23 rfl rfl)
theorem dX2_heardFrom_69 : decode cX2_heardFrom 69 = .ok (.ireturn, 1) := dk_172 (dk_at dksX2_heardFrom_3 0 rfl rfl)
abbrev cX2_waveNow : ByteArray := prog_15_method_45_code
def yX2_waveNow : MethodName := ⟨RX2, "waveNow", "(II)I"⟩
def dkwX2_waveNow_1 : List UInt8 := [180, 1, 21, 5, 108, 162, 0, 8, 16, 100, 167, 0, 5, 16, 156, 172]
abbrev dktX2_waveNow_1 : List UInt8 := dkwX2_waveNow_1 ++ []
def dkwX2_waveNow_0 : List UInt8 := [42, 180, 0, 45, 2, 160, 0, 12, 42, 27, 28, 182, 1, 18, 167, 0, 25, 28, 42, 180, 1, 21, 112, 42]
abbrev dktX2_waveNow_0 : List UInt8 := dkwX2_waveNow_0 ++ dktX2_waveNow_1
theorem dksX2_waveNow_0 : cX2_waveNow.data.toList.drop 0 = dktX2_waveNow_0 := by decide +kernel
theorem dksX2_waveNow_1 : cX2_waveNow.data.toList.drop 24 = dktX2_waveNow_1 := dk_seg dksX2_waveNow_0 24 rfl rfl
theorem dX2_waveNow_0 : decode cX2_waveNow 0 = .ok (.aload_n 0, 1) := dk_42 (dk_at dksX2_waveNow_0 0 rfl rfl)
theorem dX2_waveNow_1 : decode cX2_waveNow 1 = .ok (.getfield 45, 3) := dk_180 0 45 (dk_at dksX2_waveNow_0 1 rfl rfl)
theorem dX2_waveNow_4 : decode cX2_waveNow 4 = .ok (.iconst (-1), 1) := dk_2 (dk_at dksX2_waveNow_0 4 rfl rfl)
theorem dX2_waveNow_5 : decode cX2_waveNow 5 = .ok (.if_icmp .ne 12, 3) := dk_160 0 12 (dk_at dksX2_waveNow_0 5 rfl rfl)
theorem dX2_waveNow_8 : decode cX2_waveNow 8 = .ok (.aload_n 0, 1) := dk_42 (dk_at dksX2_waveNow_0 8 rfl rfl)
theorem dX2_waveNow_9 : decode cX2_waveNow 9 = .ok (.iload_n 1, 1) := dk_27 (dk_at dksX2_waveNow_0 9 rfl rfl)
theorem dX2_waveNow_10 : decode cX2_waveNow 10 = .ok (.iload_n 2, 1) := dk_28 (dk_at dksX2_waveNow_0 10 rfl rfl)
theorem dX2_waveNow_11 : decode cX2_waveNow 11 = .ok (.invokevirtual 274, 3) := dk_182 1 18 (dk_at dksX2_waveNow_0 11 rfl rfl)
theorem dX2_waveNow_14 : decode cX2_waveNow 14 = .ok (.goto 25, 3) := dk_167 0 25 (dk_at dksX2_waveNow_0 14 rfl rfl)
theorem dX2_waveNow_17 : decode cX2_waveNow 17 = .ok (.iload_n 2, 1) := dk_28 (dk_at dksX2_waveNow_0 17 rfl rfl)
theorem dX2_waveNow_18 : decode cX2_waveNow 18 = .ok (.aload_n 0, 1) := dk_42 (dk_at dksX2_waveNow_0 18 rfl rfl)
theorem dX2_waveNow_19 : decode cX2_waveNow 19 = .ok (.getfield 277, 3) := dk_180 1 21 (dk_at dksX2_waveNow_0 19 rfl rfl)
theorem dX2_waveNow_22 : decode cX2_waveNow 22 = .ok (.irem, 1) := dk_112 (dk_at dksX2_waveNow_0 22 rfl rfl)
theorem dX2_waveNow_23 : decode cX2_waveNow 23 = .ok (.aload_n 0, 1) := dk_42 (dk_at dksX2_waveNow_0 23 rfl rfl)
theorem dX2_waveNow_24 : decode cX2_waveNow 24 = .ok (.getfield 277, 3) := dk_180 1 21 (dk_at dksX2_waveNow_1 0 rfl rfl)
theorem dX2_waveNow_27 : decode cX2_waveNow 27 = .ok (.iconst 2, 1) := dk_5 (dk_at dksX2_waveNow_1 3 rfl rfl)
theorem dX2_waveNow_28 : decode cX2_waveNow 28 = .ok (.idiv, 1) := dk_108 (dk_at dksX2_waveNow_1 4 rfl rfl)
theorem dX2_waveNow_29 : decode cX2_waveNow 29 = .ok (.if_icmp .ge 8, 3) := dk_162 0 8 (dk_at dksX2_waveNow_1 5 rfl rfl)
theorem dX2_waveNow_32 : decode cX2_waveNow 32 = .ok (.bipush 100, 2) := dk_16 100 (dk_at dksX2_waveNow_1 8 rfl rfl)
theorem dX2_waveNow_34 : decode cX2_waveNow 34 = .ok (.goto 5, 3) := dk_167 0 5 (dk_at dksX2_waveNow_1 10 rfl rfl)
theorem dX2_waveNow_37 : decode cX2_waveNow 37 = .ok (.bipush (-100), 2) := dk_16 156 (dk_at dksX2_waveNow_1 13 rfl rfl)
theorem dX2_waveNow_39 : decode cX2_waveNow 39 = .ok (.ireturn, 1) := dk_172 (dk_at dksX2_waveNow_1 15 rfl rfl)
abbrev cX2_wave : ByteArray := prog_15_method_43_code
def yX2_wave : MethodName := ⟨RX2, "wave", "(II)I"⟩
def dkwX2_wave_7 : List UInt8 := [104, 96, 5, 29, 104, 4, 96, 112, 29, 100, 172]
abbrev dktX2_wave_7 : List UInt8 := dkwX2_wave_7 ++ []
def dkwX2_wave_6 : List UInt8 := [16, 31, 28, 104, 28, 104, 17, 30, 239, 28, 104, 96, 19, 1, 11, 42, 180, 0, 17, 16, 65, 27, 96, 46]
abbrev dktX2_wave_6 : List UInt8 := dkwX2_wave_6 ++ dktX2_wave_7
def dkwX2_wave_5 : List UInt8 := [100, 184, 1, 6, 104, 21, 4, 100, 104, 21, 4, 108, 172, 21, 5, 154, 0, 7, 29, 167, 0, 4, 3, 172]
abbrev dktX2_wave_5 : List UInt8 := dkwX2_wave_5 ++ dktX2_wave_6
def dkwX2_wave_4 : List UInt8 := [21, 5, 21, 4, 5, 108, 162, 0, 7, 29, 167, 0, 5, 29, 116, 172, 29, 7, 21, 5, 21, 4, 5, 108]
abbrev dktX2_wave_4 : List UInt8 := dkwX2_wave_4 ++ dktX2_wave_5
def dkwX2_wave_3 : List UInt8 := [170, 0, 0, 0, 0, 0, 75, 0, 0, 0, 0, 0, 0, 0, 2, 0, 0, 0, 27, 0, 0, 0, 43, 0, 0, 0, 64]
abbrev dktX2_wave_3 : List UInt8 := dkwX2_wave_3 ++ dktX2_wave_4
def dkwX2_wave_2 : List UInt8 := [21, 4, 112, 54, 5, 42, 180, 0, 17, 16, 47, 27, 96, 46]
abbrev dktX2_wave_2 : List UInt8 := dkwX2_wave_2 ++ dktX2_wave_3
def dkwX2_wave_1 : List UInt8 := [180, 0, 17, 16, 95, 27, 96, 46, 162, 0, 5, 3, 172, 28, 42, 180, 0, 17, 16, 65, 27, 96, 46, 96]
abbrev dktX2_wave_1 : List UInt8 := dkwX2_wave_1 ++ dktX2_wave_2
def dkwX2_wave_0 : List UInt8 := [42, 180, 0, 17, 16, 53, 27, 96, 46, 62, 42, 180, 0, 17, 16, 59, 27, 96, 46, 54, 4, 28, 42]
abbrev dktX2_wave_0 : List UInt8 := dkwX2_wave_0 ++ dktX2_wave_1
theorem dksX2_wave_0 : cX2_wave.data.toList.drop 0 = dktX2_wave_0 := by decide +kernel
theorem dksX2_wave_1 : cX2_wave.data.toList.drop 23 = dktX2_wave_1 := dk_seg dksX2_wave_0 23 rfl rfl
theorem dksX2_wave_2 : cX2_wave.data.toList.drop 47 = dktX2_wave_2 := dk_seg dksX2_wave_1 24 rfl rfl
theorem dksX2_wave_3 : cX2_wave.data.toList.drop 61 = dktX2_wave_3 := dk_seg dksX2_wave_2 14 rfl rfl
theorem dksX2_wave_4 : cX2_wave.data.toList.drop 88 = dktX2_wave_4 := dk_seg dksX2_wave_3 27 rfl rfl
theorem dksX2_wave_5 : cX2_wave.data.toList.drop 112 = dktX2_wave_5 := dk_seg dksX2_wave_4 24 rfl rfl
theorem dksX2_wave_6 : cX2_wave.data.toList.drop 136 = dktX2_wave_6 := dk_seg dksX2_wave_5 24 rfl rfl
theorem dksX2_wave_7 : cX2_wave.data.toList.drop 160 = dktX2_wave_7 := dk_seg dksX2_wave_6 24 rfl rfl
theorem dX2_wave_0 : decode cX2_wave 0 = .ok (.aload_n 0, 1) := dk_42 (dk_at dksX2_wave_0 0 rfl rfl)
theorem dX2_wave_1 : decode cX2_wave 1 = .ok (.getfield 17, 3) := dk_180 0 17 (dk_at dksX2_wave_0 1 rfl rfl)
theorem dX2_wave_4 : decode cX2_wave 4 = .ok (.bipush 53, 2) := dk_16 53 (dk_at dksX2_wave_0 4 rfl rfl)
theorem dX2_wave_6 : decode cX2_wave 6 = .ok (.iload_n 1, 1) := dk_27 (dk_at dksX2_wave_0 6 rfl rfl)
theorem dX2_wave_7 : decode cX2_wave 7 = .ok (.iadd, 1) := dk_96 (dk_at dksX2_wave_0 7 rfl rfl)
theorem dX2_wave_8 : decode cX2_wave 8 = .ok (.iaload, 1) := dk_46 (dk_at dksX2_wave_0 8 rfl rfl)
theorem dX2_wave_9 : decode cX2_wave 9 = .ok (.istore_n 3, 1) := dk_62 (dk_at dksX2_wave_0 9 rfl rfl)
theorem dX2_wave_10 : decode cX2_wave 10 = .ok (.aload_n 0, 1) := dk_42 (dk_at dksX2_wave_0 10 rfl rfl)
theorem dX2_wave_11 : decode cX2_wave 11 = .ok (.getfield 17, 3) := dk_180 0 17 (dk_at dksX2_wave_0 11 rfl rfl)
theorem dX2_wave_14 : decode cX2_wave 14 = .ok (.bipush 59, 2) := dk_16 59 (dk_at dksX2_wave_0 14 rfl rfl)
theorem dX2_wave_16 : decode cX2_wave 16 = .ok (.iload_n 1, 1) := dk_27 (dk_at dksX2_wave_0 16 rfl rfl)
theorem dX2_wave_17 : decode cX2_wave 17 = .ok (.iadd, 1) := dk_96 (dk_at dksX2_wave_0 17 rfl rfl)
theorem dX2_wave_18 : decode cX2_wave 18 = .ok (.iaload, 1) := dk_46 (dk_at dksX2_wave_0 18 rfl rfl)
theorem dX2_wave_19 : decode cX2_wave 19 = .ok (.istore 4, 2) := dk_54 4 (dk_at dksX2_wave_0 19 rfl rfl)
theorem dX2_wave_21 : decode cX2_wave 21 = .ok (.iload_n 2, 1) := dk_28 (dk_at dksX2_wave_0 21 rfl rfl)
theorem dX2_wave_22 : decode cX2_wave 22 = .ok (.aload_n 0, 1) := dk_42 (dk_at dksX2_wave_0 22 rfl rfl)
theorem dX2_wave_23 : decode cX2_wave 23 = .ok (.getfield 17, 3) := dk_180 0 17 (dk_at dksX2_wave_1 0 rfl rfl)
theorem dX2_wave_26 : decode cX2_wave 26 = .ok (.bipush 95, 2) := dk_16 95 (dk_at dksX2_wave_1 3 rfl rfl)
theorem dX2_wave_28 : decode cX2_wave 28 = .ok (.iload_n 1, 1) := dk_27 (dk_at dksX2_wave_1 5 rfl rfl)
theorem dX2_wave_29 : decode cX2_wave 29 = .ok (.iadd, 1) := dk_96 (dk_at dksX2_wave_1 6 rfl rfl)
theorem dX2_wave_30 : decode cX2_wave 30 = .ok (.iaload, 1) := dk_46 (dk_at dksX2_wave_1 7 rfl rfl)
theorem dX2_wave_31 : decode cX2_wave 31 = .ok (.if_icmp .ge 5, 3) := dk_162 0 5 (dk_at dksX2_wave_1 8 rfl rfl)
theorem dX2_wave_34 : decode cX2_wave 34 = .ok (.iconst 0, 1) := dk_3 (dk_at dksX2_wave_1 11 rfl rfl)
theorem dX2_wave_35 : decode cX2_wave 35 = .ok (.ireturn, 1) := dk_172 (dk_at dksX2_wave_1 12 rfl rfl)
theorem dX2_wave_36 : decode cX2_wave 36 = .ok (.iload_n 2, 1) := dk_28 (dk_at dksX2_wave_1 13 rfl rfl)
theorem dX2_wave_37 : decode cX2_wave 37 = .ok (.aload_n 0, 1) := dk_42 (dk_at dksX2_wave_1 14 rfl rfl)
theorem dX2_wave_38 : decode cX2_wave 38 = .ok (.getfield 17, 3) := dk_180 0 17 (dk_at dksX2_wave_1 15 rfl rfl)
theorem dX2_wave_41 : decode cX2_wave 41 = .ok (.bipush 65, 2) := dk_16 65 (dk_at dksX2_wave_1 18 rfl rfl)
theorem dX2_wave_43 : decode cX2_wave 43 = .ok (.iload_n 1, 1) := dk_27 (dk_at dksX2_wave_1 20 rfl rfl)
theorem dX2_wave_44 : decode cX2_wave 44 = .ok (.iadd, 1) := dk_96 (dk_at dksX2_wave_1 21 rfl rfl)
theorem dX2_wave_45 : decode cX2_wave 45 = .ok (.iaload, 1) := dk_46 (dk_at dksX2_wave_1 22 rfl rfl)
theorem dX2_wave_46 : decode cX2_wave 46 = .ok (.iadd, 1) := dk_96 (dk_at dksX2_wave_1 23 rfl rfl)
theorem dX2_wave_47 : decode cX2_wave 47 = .ok (.iload 4, 2) := dk_21 4 (dk_at dksX2_wave_2 0 rfl rfl)
theorem dX2_wave_49 : decode cX2_wave 49 = .ok (.irem, 1) := dk_112 (dk_at dksX2_wave_2 2 rfl rfl)
theorem dX2_wave_50 : decode cX2_wave 50 = .ok (.istore 5, 2) := dk_54 5 (dk_at dksX2_wave_2 3 rfl rfl)
theorem dX2_wave_52 : decode cX2_wave 52 = .ok (.aload_n 0, 1) := dk_42 (dk_at dksX2_wave_2 5 rfl rfl)
theorem dX2_wave_53 : decode cX2_wave 53 = .ok (.getfield 17, 3) := dk_180 0 17 (dk_at dksX2_wave_2 6 rfl rfl)
theorem dX2_wave_56 : decode cX2_wave 56 = .ok (.bipush 47, 2) := dk_16 47 (dk_at dksX2_wave_2 9 rfl rfl)
theorem dX2_wave_58 : decode cX2_wave 58 = .ok (.iload_n 1, 1) := dk_27 (dk_at dksX2_wave_2 11 rfl rfl)
theorem dX2_wave_59 : decode cX2_wave 59 = .ok (.iadd, 1) := dk_96 (dk_at dksX2_wave_2 12 rfl rfl)
theorem dX2_wave_60 : decode cX2_wave 60 = .ok (.iaload, 1) := dk_46 (dk_at dksX2_wave_2 13 rfl rfl)
theorem dX2_wave_61 : decode cX2_wave 61 = .ok (.tableswitch 75 0 2 #[27, 43, 64], 27) := by decide +kernel
theorem dX2_wave_88 : decode cX2_wave 88 = .ok (.iload 5, 2) := dk_21 5 (dk_at dksX2_wave_4 0 rfl rfl)
theorem dX2_wave_90 : decode cX2_wave 90 = .ok (.iload 4, 2) := dk_21 4 (dk_at dksX2_wave_4 2 rfl rfl)
theorem dX2_wave_92 : decode cX2_wave 92 = .ok (.iconst 2, 1) := dk_5 (dk_at dksX2_wave_4 4 rfl rfl)
theorem dX2_wave_93 : decode cX2_wave 93 = .ok (.idiv, 1) := dk_108 (dk_at dksX2_wave_4 5 rfl rfl)
theorem dX2_wave_94 : decode cX2_wave 94 = .ok (.if_icmp .ge 7, 3) := dk_162 0 7 (dk_at dksX2_wave_4 6 rfl rfl)
theorem dX2_wave_97 : decode cX2_wave 97 = .ok (.iload_n 3, 1) := dk_29 (dk_at dksX2_wave_4 9 rfl rfl)
theorem dX2_wave_98 : decode cX2_wave 98 = .ok (.goto 5, 3) := dk_167 0 5 (dk_at dksX2_wave_4 10 rfl rfl)
theorem dX2_wave_101 : decode cX2_wave 101 = .ok (.iload_n 3, 1) := dk_29 (dk_at dksX2_wave_4 13 rfl rfl)
theorem dX2_wave_102 : decode cX2_wave 102 = .ok (.ineg, 1) := dk_116 (dk_at dksX2_wave_4 14 rfl rfl)
theorem dX2_wave_103 : decode cX2_wave 103 = .ok (.ireturn, 1) := dk_172 (dk_at dksX2_wave_4 15 rfl rfl)
theorem dX2_wave_104 : decode cX2_wave 104 = .ok (.iload_n 3, 1) := dk_29 (dk_at dksX2_wave_4 16 rfl rfl)
theorem dX2_wave_105 : decode cX2_wave 105 = .ok (.iconst 4, 1) := dk_7 (dk_at dksX2_wave_4 17 rfl rfl)
theorem dX2_wave_106 : decode cX2_wave 106 = .ok (.iload 5, 2) := dk_21 5 (dk_at dksX2_wave_4 18 rfl rfl)
theorem dX2_wave_108 : decode cX2_wave 108 = .ok (.iload 4, 2) := dk_21 4 (dk_at dksX2_wave_4 20 rfl rfl)
theorem dX2_wave_110 : decode cX2_wave 110 = .ok (.iconst 2, 1) := dk_5 (dk_at dksX2_wave_4 22 rfl rfl)
theorem dX2_wave_111 : decode cX2_wave 111 = .ok (.idiv, 1) := dk_108 (dk_at dksX2_wave_4 23 rfl rfl)
theorem dX2_wave_112 : decode cX2_wave 112 = .ok (.isub, 1) := dk_100 (dk_at dksX2_wave_5 0 rfl rfl)
theorem dX2_wave_113 : decode cX2_wave 113 = .ok (.invokestatic 262, 3) := dk_184 1 6 (dk_at dksX2_wave_5 1 rfl rfl)
theorem dX2_wave_116 : decode cX2_wave 116 = .ok (.imul, 1) := dk_104 (dk_at dksX2_wave_5 4 rfl rfl)
theorem dX2_wave_117 : decode cX2_wave 117 = .ok (.iload 4, 2) := dk_21 4 (dk_at dksX2_wave_5 5 rfl rfl)
theorem dX2_wave_119 : decode cX2_wave 119 = .ok (.isub, 1) := dk_100 (dk_at dksX2_wave_5 7 rfl rfl)
theorem dX2_wave_120 : decode cX2_wave 120 = .ok (.imul, 1) := dk_104 (dk_at dksX2_wave_5 8 rfl rfl)
theorem dX2_wave_121 : decode cX2_wave 121 = .ok (.iload 4, 2) := dk_21 4 (dk_at dksX2_wave_5 9 rfl rfl)
theorem dX2_wave_123 : decode cX2_wave 123 = .ok (.idiv, 1) := dk_108 (dk_at dksX2_wave_5 11 rfl rfl)
theorem dX2_wave_124 : decode cX2_wave 124 = .ok (.ireturn, 1) := dk_172 (dk_at dksX2_wave_5 12 rfl rfl)
theorem dX2_wave_125 : decode cX2_wave 125 = .ok (.iload 5, 2) := dk_21 5 (dk_at dksX2_wave_5 13 rfl rfl)
theorem dX2_wave_127 : decode cX2_wave 127 = .ok (.ifCond .ne 7, 3) := dk_154 0 7 (dk_at dksX2_wave_5 15 rfl rfl)
theorem dX2_wave_130 : decode cX2_wave 130 = .ok (.iload_n 3, 1) := dk_29 (dk_at dksX2_wave_5 18 rfl rfl)
theorem dX2_wave_131 : decode cX2_wave 131 = .ok (.goto 4, 3) := dk_167 0 4 (dk_at dksX2_wave_5 19 rfl rfl)
theorem dX2_wave_134 : decode cX2_wave 134 = .ok (.iconst 0, 1) := dk_3 (dk_at dksX2_wave_5 22 rfl rfl)
theorem dX2_wave_135 : decode cX2_wave 135 = .ok (.ireturn, 1) := dk_172 (dk_at dksX2_wave_5 23 rfl rfl)
theorem dX2_wave_136 : decode cX2_wave 136 = .ok (.bipush 31, 2) := dk_16 31 (dk_at dksX2_wave_6 0 rfl rfl)
theorem dX2_wave_138 : decode cX2_wave 138 = .ok (.iload_n 2, 1) := dk_28 (dk_at dksX2_wave_6 2 rfl rfl)
theorem dX2_wave_139 : decode cX2_wave 139 = .ok (.imul, 1) := dk_104 (dk_at dksX2_wave_6 3 rfl rfl)
theorem dX2_wave_140 : decode cX2_wave 140 = .ok (.iload_n 2, 1) := dk_28 (dk_at dksX2_wave_6 4 rfl rfl)
theorem dX2_wave_141 : decode cX2_wave 141 = .ok (.imul, 1) := dk_104 (dk_at dksX2_wave_6 5 rfl rfl)
theorem dX2_wave_142 : decode cX2_wave 142 = .ok (.sipush 7919, 3) := dk_17 30 239 (dk_at dksX2_wave_6 6 rfl rfl)
theorem dX2_wave_145 : decode cX2_wave 145 = .ok (.iload_n 2, 1) := dk_28 (dk_at dksX2_wave_6 9 rfl rfl)
theorem dX2_wave_146 : decode cX2_wave 146 = .ok (.imul, 1) := dk_104 (dk_at dksX2_wave_6 10 rfl rfl)
theorem dX2_wave_147 : decode cX2_wave 147 = .ok (.iadd, 1) := dk_96 (dk_at dksX2_wave_6 11 rfl rfl)
theorem dX2_wave_148 : decode cX2_wave 148 = .ok (.ldc_w 267, 3) := dk_19 1 11 (dk_at dksX2_wave_6 12 rfl rfl)
theorem dX2_wave_151 : decode cX2_wave 151 = .ok (.aload_n 0, 1) := dk_42 (dk_at dksX2_wave_6 15 rfl rfl)
theorem dX2_wave_152 : decode cX2_wave 152 = .ok (.getfield 17, 3) := dk_180 0 17 (dk_at dksX2_wave_6 16 rfl rfl)
theorem dX2_wave_155 : decode cX2_wave 155 = .ok (.bipush 65, 2) := dk_16 65 (dk_at dksX2_wave_6 19 rfl rfl)
theorem dX2_wave_157 : decode cX2_wave 157 = .ok (.iload_n 1, 1) := dk_27 (dk_at dksX2_wave_6 21 rfl rfl)
theorem dX2_wave_158 : decode cX2_wave 158 = .ok (.iadd, 1) := dk_96 (dk_at dksX2_wave_6 22 rfl rfl)
theorem dX2_wave_159 : decode cX2_wave 159 = .ok (.iaload, 1) := dk_46 (dk_at dksX2_wave_6 23 rfl rfl)
theorem dX2_wave_160 : decode cX2_wave 160 = .ok (.imul, 1) := dk_104 (dk_at dksX2_wave_7 0 rfl rfl)
theorem dX2_wave_161 : decode cX2_wave 161 = .ok (.iadd, 1) := dk_96 (dk_at dksX2_wave_7 1 rfl rfl)
theorem dX2_wave_162 : decode cX2_wave 162 = .ok (.iconst 2, 1) := dk_5 (dk_at dksX2_wave_7 2 rfl rfl)
theorem dX2_wave_163 : decode cX2_wave 163 = .ok (.iload_n 3, 1) := dk_29 (dk_at dksX2_wave_7 3 rfl rfl)
theorem dX2_wave_164 : decode cX2_wave 164 = .ok (.imul, 1) := dk_104 (dk_at dksX2_wave_7 4 rfl rfl)
theorem dX2_wave_165 : decode cX2_wave 165 = .ok (.iconst 1, 1) := dk_4 (dk_at dksX2_wave_7 5 rfl rfl)
theorem dX2_wave_166 : decode cX2_wave 166 = .ok (.iadd, 1) := dk_96 (dk_at dksX2_wave_7 6 rfl rfl)
theorem dX2_wave_167 : decode cX2_wave 167 = .ok (.irem, 1) := dk_112 (dk_at dksX2_wave_7 7 rfl rfl)
theorem dX2_wave_168 : decode cX2_wave 168 = .ok (.iload_n 3, 1) := dk_29 (dk_at dksX2_wave_7 8 rfl rfl)
theorem dX2_wave_169 : decode cX2_wave 169 = .ok (.isub, 1) := dk_100 (dk_at dksX2_wave_7 9 rfl rfl)
theorem dX2_wave_170 : decode cX2_wave 170 = .ok (.ireturn, 1) := dk_172 (dk_at dksX2_wave_7 10 rfl rfl)
abbrev cX2_sourcePlace : ByteArray := prog_15_method_42_code
def yX2_sourcePlace : MethodName := ⟨RX2, "sourcePlace", "([IIII)I"⟩
def dkwX2_sourcePlace_1 : List UInt8 := [167, 0, 22, 43, 16, 37, 28, 96, 46, 43, 16, 49, 28, 96, 46, 21, 4, 104, 16, 100, 108, 96, 172]
abbrev dktX2_sourcePlace_1 : List UInt8 := dkwX2_sourcePlace_1 ++ []
def dkwX2_sourcePlace_0 : List UInt8 := [29, 154, 0, 25, 43, 16, 31, 28, 96, 46, 43, 16, 43, 28, 96, 46, 21, 4, 104, 16, 100, 108, 96]
abbrev dktX2_sourcePlace_0 : List UInt8 := dkwX2_sourcePlace_0 ++ dktX2_sourcePlace_1
theorem dksX2_sourcePlace_0 : cX2_sourcePlace.data.toList.drop 0 = dktX2_sourcePlace_0 := by decide +kernel
theorem dksX2_sourcePlace_1 : cX2_sourcePlace.data.toList.drop 23 = dktX2_sourcePlace_1 := dk_seg dksX2_sourcePlace_0 23 rfl rfl
theorem dX2_sourcePlace_0 : decode cX2_sourcePlace 0 = .ok (.iload_n 3, 1) := dk_29 (dk_at dksX2_sourcePlace_0 0 rfl rfl)
theorem dX2_sourcePlace_1 : decode cX2_sourcePlace 1 = .ok (.ifCond .ne 25, 3) := dk_154 0 25 (dk_at dksX2_sourcePlace_0 1 rfl rfl)
theorem dX2_sourcePlace_4 : decode cX2_sourcePlace 4 = .ok (.aload_n 1, 1) := dk_43 (dk_at dksX2_sourcePlace_0 4 rfl rfl)
theorem dX2_sourcePlace_5 : decode cX2_sourcePlace 5 = .ok (.bipush 31, 2) := dk_16 31 (dk_at dksX2_sourcePlace_0 5 rfl rfl)
theorem dX2_sourcePlace_7 : decode cX2_sourcePlace 7 = .ok (.iload_n 2, 1) := dk_28 (dk_at dksX2_sourcePlace_0 7 rfl rfl)
theorem dX2_sourcePlace_8 : decode cX2_sourcePlace 8 = .ok (.iadd, 1) := dk_96 (dk_at dksX2_sourcePlace_0 8 rfl rfl)
theorem dX2_sourcePlace_9 : decode cX2_sourcePlace 9 = .ok (.iaload, 1) := dk_46 (dk_at dksX2_sourcePlace_0 9 rfl rfl)
theorem dX2_sourcePlace_10 : decode cX2_sourcePlace 10 = .ok (.aload_n 1, 1) := dk_43 (dk_at dksX2_sourcePlace_0 10 rfl rfl)
theorem dX2_sourcePlace_11 : decode cX2_sourcePlace 11 = .ok (.bipush 43, 2) := dk_16 43 (dk_at dksX2_sourcePlace_0 11 rfl rfl)
theorem dX2_sourcePlace_13 : decode cX2_sourcePlace 13 = .ok (.iload_n 2, 1) := dk_28 (dk_at dksX2_sourcePlace_0 13 rfl rfl)
theorem dX2_sourcePlace_14 : decode cX2_sourcePlace 14 = .ok (.iadd, 1) := dk_96 (dk_at dksX2_sourcePlace_0 14 rfl rfl)
theorem dX2_sourcePlace_15 : decode cX2_sourcePlace 15 = .ok (.iaload, 1) := dk_46 (dk_at dksX2_sourcePlace_0 15 rfl rfl)
theorem dX2_sourcePlace_16 : decode cX2_sourcePlace 16 = .ok (.iload 4, 2) := dk_21 4 (dk_at dksX2_sourcePlace_0 16 rfl rfl)
theorem dX2_sourcePlace_18 : decode cX2_sourcePlace 18 = .ok (.imul, 1) := dk_104 (dk_at dksX2_sourcePlace_0 18 rfl rfl)
theorem dX2_sourcePlace_19 : decode cX2_sourcePlace 19 = .ok (.bipush 100, 2) := dk_16 100 (dk_at dksX2_sourcePlace_0 19 rfl rfl)
theorem dX2_sourcePlace_21 : decode cX2_sourcePlace 21 = .ok (.idiv, 1) := dk_108 (dk_at dksX2_sourcePlace_0 21 rfl rfl)
theorem dX2_sourcePlace_22 : decode cX2_sourcePlace 22 = .ok (.iadd, 1) := dk_96 (dk_at dksX2_sourcePlace_0 22 rfl rfl)
theorem dX2_sourcePlace_23 : decode cX2_sourcePlace 23 = .ok (.goto 22, 3) := dk_167 0 22 (dk_at dksX2_sourcePlace_1 0 rfl rfl)
theorem dX2_sourcePlace_26 : decode cX2_sourcePlace 26 = .ok (.aload_n 1, 1) := dk_43 (dk_at dksX2_sourcePlace_1 3 rfl rfl)
theorem dX2_sourcePlace_27 : decode cX2_sourcePlace 27 = .ok (.bipush 37, 2) := dk_16 37 (dk_at dksX2_sourcePlace_1 4 rfl rfl)
theorem dX2_sourcePlace_29 : decode cX2_sourcePlace 29 = .ok (.iload_n 2, 1) := dk_28 (dk_at dksX2_sourcePlace_1 6 rfl rfl)
theorem dX2_sourcePlace_30 : decode cX2_sourcePlace 30 = .ok (.iadd, 1) := dk_96 (dk_at dksX2_sourcePlace_1 7 rfl rfl)
theorem dX2_sourcePlace_31 : decode cX2_sourcePlace 31 = .ok (.iaload, 1) := dk_46 (dk_at dksX2_sourcePlace_1 8 rfl rfl)
theorem dX2_sourcePlace_32 : decode cX2_sourcePlace 32 = .ok (.aload_n 1, 1) := dk_43 (dk_at dksX2_sourcePlace_1 9 rfl rfl)
theorem dX2_sourcePlace_33 : decode cX2_sourcePlace 33 = .ok (.bipush 49, 2) := dk_16 49 (dk_at dksX2_sourcePlace_1 10 rfl rfl)
theorem dX2_sourcePlace_35 : decode cX2_sourcePlace 35 = .ok (.iload_n 2, 1) := dk_28 (dk_at dksX2_sourcePlace_1 12 rfl rfl)
theorem dX2_sourcePlace_36 : decode cX2_sourcePlace 36 = .ok (.iadd, 1) := dk_96 (dk_at dksX2_sourcePlace_1 13 rfl rfl)
theorem dX2_sourcePlace_37 : decode cX2_sourcePlace 37 = .ok (.iaload, 1) := dk_46 (dk_at dksX2_sourcePlace_1 14 rfl rfl)
theorem dX2_sourcePlace_38 : decode cX2_sourcePlace 38 = .ok (.iload 4, 2) := dk_21 4 (dk_at dksX2_sourcePlace_1 15 rfl rfl)
theorem dX2_sourcePlace_40 : decode cX2_sourcePlace 40 = .ok (.imul, 1) := dk_104 (dk_at dksX2_sourcePlace_1 17 rfl rfl)
theorem dX2_sourcePlace_41 : decode cX2_sourcePlace 41 = .ok (.bipush 100, 2) := dk_16 100 (dk_at dksX2_sourcePlace_1 18 rfl rfl)
theorem dX2_sourcePlace_43 : decode cX2_sourcePlace 43 = .ok (.idiv, 1) := dk_108 (dk_at dksX2_sourcePlace_1 20 rfl rfl)
theorem dX2_sourcePlace_44 : decode cX2_sourcePlace 44 = .ok (.iadd, 1) := dk_96 (dk_at dksX2_sourcePlace_1 21 rfl rfl)
theorem dX2_sourcePlace_45 : decode cX2_sourcePlace 45 = .ok (.ireturn, 1) := dk_172 (dk_at dksX2_sourcePlace_1 22 rfl rfl)
abbrev cX2_filtered : ByteArray := prog_15_method_49_code
def yX2_filtered : MethodName := ⟨RX2, "filtered", "(I)I"⟩
def dkwX2_filtered_2 : List UInt8 := [42, 180, 0, 48, 27, 29, 100, 46, 104, 96, 61, 132, 3, 1, 167, 255, 216, 28, 172]
abbrev dktX2_filtered_2 : List UInt8 := dkwX2_filtered_2 ++ []
def dkwX2_filtered_1 : List UInt8 := [180, 0, 17, 16, 77, 46, 162, 0, 35, 29, 27, 163, 0, 30, 28, 42, 180, 0, 17, 16, 78, 29, 96, 46]
abbrev dktX2_filtered_1 : List UInt8 := dkwX2_filtered_1 ++ dktX2_filtered_2
def dkwX2_filtered_0 : List UInt8 := [42, 180, 0, 17, 16, 77, 46, 154, 0, 10, 42, 180, 0, 48, 27, 46, 172, 3, 61, 3, 62, 29, 42]
abbrev dktX2_filtered_0 : List UInt8 := dkwX2_filtered_0 ++ dktX2_filtered_1
theorem dksX2_filtered_0 : cX2_filtered.data.toList.drop 0 = dktX2_filtered_0 := by decide +kernel
theorem dksX2_filtered_1 : cX2_filtered.data.toList.drop 23 = dktX2_filtered_1 := dk_seg dksX2_filtered_0 23 rfl rfl
theorem dksX2_filtered_2 : cX2_filtered.data.toList.drop 47 = dktX2_filtered_2 := dk_seg dksX2_filtered_1 24 rfl rfl
theorem dX2_filtered_0 : decode cX2_filtered 0 = .ok (.aload_n 0, 1) := dk_42 (dk_at dksX2_filtered_0 0 rfl rfl)
theorem dX2_filtered_1 : decode cX2_filtered 1 = .ok (.getfield 17, 3) := dk_180 0 17 (dk_at dksX2_filtered_0 1 rfl rfl)
theorem dX2_filtered_4 : decode cX2_filtered 4 = .ok (.bipush 77, 2) := dk_16 77 (dk_at dksX2_filtered_0 4 rfl rfl)
theorem dX2_filtered_6 : decode cX2_filtered 6 = .ok (.iaload, 1) := dk_46 (dk_at dksX2_filtered_0 6 rfl rfl)
theorem dX2_filtered_7 : decode cX2_filtered 7 = .ok (.ifCond .ne 10, 3) := dk_154 0 10 (dk_at dksX2_filtered_0 7 rfl rfl)
theorem dX2_filtered_10 : decode cX2_filtered 10 = .ok (.aload_n 0, 1) := dk_42 (dk_at dksX2_filtered_0 10 rfl rfl)
theorem dX2_filtered_11 : decode cX2_filtered 11 = .ok (.getfield 48, 3) := dk_180 0 48 (dk_at dksX2_filtered_0 11 rfl rfl)
theorem dX2_filtered_14 : decode cX2_filtered 14 = .ok (.iload_n 1, 1) := dk_27 (dk_at dksX2_filtered_0 14 rfl rfl)
theorem dX2_filtered_15 : decode cX2_filtered 15 = .ok (.iaload, 1) := dk_46 (dk_at dksX2_filtered_0 15 rfl rfl)
theorem dX2_filtered_16 : decode cX2_filtered 16 = .ok (.ireturn, 1) := dk_172 (dk_at dksX2_filtered_0 16 rfl rfl)
theorem dX2_filtered_17 : decode cX2_filtered 17 = .ok (.iconst 0, 1) := dk_3 (dk_at dksX2_filtered_0 17 rfl rfl)
theorem dX2_filtered_18 : decode cX2_filtered 18 = .ok (.istore_n 2, 1) := dk_61 (dk_at dksX2_filtered_0 18 rfl rfl)
theorem dX2_filtered_19 : decode cX2_filtered 19 = .ok (.iconst 0, 1) := dk_3 (dk_at dksX2_filtered_0 19 rfl rfl)
theorem dX2_filtered_20 : decode cX2_filtered 20 = .ok (.istore_n 3, 1) := dk_62 (dk_at dksX2_filtered_0 20 rfl rfl)
theorem dX2_filtered_21 : decode cX2_filtered 21 = .ok (.iload_n 3, 1) := dk_29 (dk_at dksX2_filtered_0 21 rfl rfl)
theorem dX2_filtered_22 : decode cX2_filtered 22 = .ok (.aload_n 0, 1) := dk_42 (dk_at dksX2_filtered_0 22 rfl rfl)
theorem dX2_filtered_23 : decode cX2_filtered 23 = .ok (.getfield 17, 3) := dk_180 0 17 (dk_at dksX2_filtered_1 0 rfl rfl)
theorem dX2_filtered_26 : decode cX2_filtered 26 = .ok (.bipush 77, 2) := dk_16 77 (dk_at dksX2_filtered_1 3 rfl rfl)
theorem dX2_filtered_28 : decode cX2_filtered 28 = .ok (.iaload, 1) := dk_46 (dk_at dksX2_filtered_1 5 rfl rfl)
theorem dX2_filtered_29 : decode cX2_filtered 29 = .ok (.if_icmp .ge 35, 3) := dk_162 0 35 (dk_at dksX2_filtered_1 6 rfl rfl)
theorem dX2_filtered_32 : decode cX2_filtered 32 = .ok (.iload_n 3, 1) := dk_29 (dk_at dksX2_filtered_1 9 rfl rfl)
theorem dX2_filtered_33 : decode cX2_filtered 33 = .ok (.iload_n 1, 1) := dk_27 (dk_at dksX2_filtered_1 10 rfl rfl)
theorem dX2_filtered_34 : decode cX2_filtered 34 = .ok (.if_icmp .gt 30, 3) := dk_163 0 30 (dk_at dksX2_filtered_1 11 rfl rfl)
theorem dX2_filtered_37 : decode cX2_filtered 37 = .ok (.iload_n 2, 1) := dk_28 (dk_at dksX2_filtered_1 14 rfl rfl)
theorem dX2_filtered_38 : decode cX2_filtered 38 = .ok (.aload_n 0, 1) := dk_42 (dk_at dksX2_filtered_1 15 rfl rfl)
theorem dX2_filtered_39 : decode cX2_filtered 39 = .ok (.getfield 17, 3) := dk_180 0 17 (dk_at dksX2_filtered_1 16 rfl rfl)
theorem dX2_filtered_42 : decode cX2_filtered 42 = .ok (.bipush 78, 2) := dk_16 78 (dk_at dksX2_filtered_1 19 rfl rfl)
theorem dX2_filtered_44 : decode cX2_filtered 44 = .ok (.iload_n 3, 1) := dk_29 (dk_at dksX2_filtered_1 21 rfl rfl)
theorem dX2_filtered_45 : decode cX2_filtered 45 = .ok (.iadd, 1) := dk_96 (dk_at dksX2_filtered_1 22 rfl rfl)
theorem dX2_filtered_46 : decode cX2_filtered 46 = .ok (.iaload, 1) := dk_46 (dk_at dksX2_filtered_1 23 rfl rfl)
theorem dX2_filtered_47 : decode cX2_filtered 47 = .ok (.aload_n 0, 1) := dk_42 (dk_at dksX2_filtered_2 0 rfl rfl)
theorem dX2_filtered_48 : decode cX2_filtered 48 = .ok (.getfield 48, 3) := dk_180 0 48 (dk_at dksX2_filtered_2 1 rfl rfl)
theorem dX2_filtered_51 : decode cX2_filtered 51 = .ok (.iload_n 1, 1) := dk_27 (dk_at dksX2_filtered_2 4 rfl rfl)
theorem dX2_filtered_52 : decode cX2_filtered 52 = .ok (.iload_n 3, 1) := dk_29 (dk_at dksX2_filtered_2 5 rfl rfl)
theorem dX2_filtered_53 : decode cX2_filtered 53 = .ok (.isub, 1) := dk_100 (dk_at dksX2_filtered_2 6 rfl rfl)
theorem dX2_filtered_54 : decode cX2_filtered 54 = .ok (.iaload, 1) := dk_46 (dk_at dksX2_filtered_2 7 rfl rfl)
theorem dX2_filtered_55 : decode cX2_filtered 55 = .ok (.imul, 1) := dk_104 (dk_at dksX2_filtered_2 8 rfl rfl)
theorem dX2_filtered_56 : decode cX2_filtered 56 = .ok (.iadd, 1) := dk_96 (dk_at dksX2_filtered_2 9 rfl rfl)
theorem dX2_filtered_57 : decode cX2_filtered 57 = .ok (.istore_n 2, 1) := dk_61 (dk_at dksX2_filtered_2 10 rfl rfl)
theorem dX2_filtered_58 : decode cX2_filtered 58 = .ok (.iinc 3 1, 3) := dk_132 3 1 (dk_at dksX2_filtered_2 11 rfl rfl)
theorem dX2_filtered_61 : decode cX2_filtered 61 = .ok (.goto (-40), 3) := dk_167 255 216 (dk_at dksX2_filtered_2 14 rfl rfl)
theorem dX2_filtered_64 : decode cX2_filtered 64 = .ok (.iload_n 2, 1) := dk_28 (dk_at dksX2_filtered_2 17 rfl rfl)
theorem dX2_filtered_65 : decode cX2_filtered 65 = .ok (.ireturn, 1) := dk_172 (dk_at dksX2_filtered_2 18 rfl rfl)
abbrev cX2_bounded : ByteArray := prog_15_method_44_code
def yX2_bounded : MethodName := ⟨RX2, "bounded", "(I)I"⟩
def dkwX2_bounded_0 : List UInt8 := [42, 180, 0, 17, 6, 46, 116, 42, 180, 0, 17, 6, 46, 27, 184, 1, 12, 184, 1, 15, 172]
abbrev dktX2_bounded_0 : List UInt8 := dkwX2_bounded_0 ++ []
theorem dksX2_bounded_0 : cX2_bounded.data.toList.drop 0 = dktX2_bounded_0 := by decide +kernel
theorem dX2_bounded_0 : decode cX2_bounded 0 = .ok (.aload_n 0, 1) := dk_42 (dk_at dksX2_bounded_0 0 rfl rfl)
theorem dX2_bounded_1 : decode cX2_bounded 1 = .ok (.getfield 17, 3) := dk_180 0 17 (dk_at dksX2_bounded_0 1 rfl rfl)
theorem dX2_bounded_4 : decode cX2_bounded 4 = .ok (.iconst 3, 1) := dk_6 (dk_at dksX2_bounded_0 4 rfl rfl)
theorem dX2_bounded_5 : decode cX2_bounded 5 = .ok (.iaload, 1) := dk_46 (dk_at dksX2_bounded_0 5 rfl rfl)
theorem dX2_bounded_6 : decode cX2_bounded 6 = .ok (.ineg, 1) := dk_116 (dk_at dksX2_bounded_0 6 rfl rfl)
theorem dX2_bounded_7 : decode cX2_bounded 7 = .ok (.aload_n 0, 1) := dk_42 (dk_at dksX2_bounded_0 7 rfl rfl)
theorem dX2_bounded_8 : decode cX2_bounded 8 = .ok (.getfield 17, 3) := dk_180 0 17 (dk_at dksX2_bounded_0 8 rfl rfl)
theorem dX2_bounded_11 : decode cX2_bounded 11 = .ok (.iconst 3, 1) := dk_6 (dk_at dksX2_bounded_0 11 rfl rfl)
theorem dX2_bounded_12 : decode cX2_bounded 12 = .ok (.iaload, 1) := dk_46 (dk_at dksX2_bounded_0 12 rfl rfl)
theorem dX2_bounded_13 : decode cX2_bounded 13 = .ok (.iload_n 1, 1) := dk_27 (dk_at dksX2_bounded_0 13 rfl rfl)
theorem dX2_bounded_14 : decode cX2_bounded 14 = .ok (.invokestatic 268, 3) := dk_184 1 12 (dk_at dksX2_bounded_0 14 rfl rfl)
theorem dX2_bounded_17 : decode cX2_bounded 17 = .ok (.invokestatic 271, 3) := dk_184 1 15 (dk_at dksX2_bounded_0 17 rfl rfl)
theorem dX2_bounded_20 : decode cX2_bounded 20 = .ok (.ireturn, 1) := dk_172 (dk_at dksX2_bounded_0 20 rfl rfl)
abbrev cX2_mics : ByteArray := prog_15_method_69_code
def yX2_mics : MethodName := ⟨RX2, "mics", "()I"⟩
def dkwX2_mics_0 : List UInt8 := [42, 42, 180, 0, 17, 7, 46, 182, 1, 78, 172]
abbrev dktX2_mics_0 : List UInt8 := dkwX2_mics_0 ++ []
theorem dksX2_mics_0 : cX2_mics.data.toList.drop 0 = dktX2_mics_0 := by decide +kernel
theorem dX2_mics_0 : decode cX2_mics 0 = .ok (.aload_n 0, 1) := dk_42 (dk_at dksX2_mics_0 0 rfl rfl)
theorem dX2_mics_1 : decode cX2_mics 1 = .ok (.aload_n 0, 1) := dk_42 (dk_at dksX2_mics_0 1 rfl rfl)
theorem dX2_mics_2 : decode cX2_mics 2 = .ok (.getfield 17, 3) := dk_180 0 17 (dk_at dksX2_mics_0 2 rfl rfl)
theorem dX2_mics_5 : decode cX2_mics 5 = .ok (.iconst 4, 1) := dk_7 (dk_at dksX2_mics_0 5 rfl rfl)
theorem dX2_mics_6 : decode cX2_mics 6 = .ok (.iaload, 1) := dk_46 (dk_at dksX2_mics_0 6 rfl rfl)
theorem dX2_mics_7 : decode cX2_mics 7 = .ok (.invokevirtual 334, 3) := dk_182 1 78 (dk_at dksX2_mics_0 7 rfl rfl)
theorem dX2_mics_10 : decode cX2_mics 10 = .ok (.ireturn, 1) := dk_172 (dk_at dksX2_mics_0 10 rfl rfl)
abbrev cX2_told : ByteArray := prog_15_method_63_code
def yX2_told : MethodName := ⟨RX2, "told", "(I)I"⟩
def dkwX2_told_0 : List UInt8 := [42, 3, 181, 0, 67, 42, 180, 0, 251, 153, 0, 7, 27, 167, 0, 4, 3, 172]
abbrev dktX2_told_0 : List UInt8 := dkwX2_told_0 ++ []
theorem dksX2_told_0 : cX2_told.data.toList.drop 0 = dktX2_told_0 := by decide +kernel
theorem dX2_told_0 : decode cX2_told 0 = .ok (.aload_n 0, 1) := dk_42 (dk_at dksX2_told_0 0 rfl rfl)
theorem dX2_told_1 : decode cX2_told 1 = .ok (.iconst 0, 1) := dk_3 (dk_at dksX2_told_0 1 rfl rfl)
theorem dX2_told_2 : decode cX2_told 2 = .ok (.putfield 67, 3) := dk_181 0 67 (dk_at dksX2_told_0 2 rfl rfl)
theorem dX2_told_5 : decode cX2_told 5 = .ok (.aload_n 0, 1) := dk_42 (dk_at dksX2_told_0 5 rfl rfl)
theorem dX2_told_6 : decode cX2_told 6 = .ok (.getfield 251, 3) := dk_180 0 251 (dk_at dksX2_told_0 6 rfl rfl)
theorem dX2_told_9 : decode cX2_told 9 = .ok (.ifCond .eq 7, 3) := dk_153 0 7 (dk_at dksX2_told_0 9 rfl rfl)
theorem dX2_told_12 : decode cX2_told 12 = .ok (.iload_n 1, 1) := dk_27 (dk_at dksX2_told_0 12 rfl rfl)
theorem dX2_told_13 : decode cX2_told 13 = .ok (.goto 4, 3) := dk_167 0 4 (dk_at dksX2_told_0 13 rfl rfl)
theorem dX2_told_16 : decode cX2_told 16 = .ok (.iconst 0, 1) := dk_3 (dk_at dksX2_told_0 16 rfl rfl)
theorem dX2_told_17 : decode cX2_told 17 = .ok (.ireturn, 1) := dk_172 (dk_at dksX2_told_0 17 rfl rfl)
abbrev cX2_micAt : ByteArray := prog_15_method_70_code
def yX2_micAt : MethodName := ⟨RX2, "micAt", "(II)I"⟩
def dkwX2_micAt_3 : List UInt8 := [16, 35, 27, 96, 46, 172, 42, 180, 0, 23, 16, 13, 27, 96, 46, 172, 42, 6, 182, 0, 227, 172]
abbrev dktX2_micAt_3 : List UInt8 := dkwX2_micAt_3 ++ []
def dkwX2_micAt_2 : List UInt8 := [42, 180, 0, 17, 16, 11, 27, 96, 46, 172, 42, 180, 0, 17, 16, 23, 27, 96, 46, 172, 42, 180, 0, 17]
abbrev dktX2_micAt_2 : List UInt8 := dkwX2_micAt_2 ++ dktX2_micAt_3
def dkwX2_micAt_1 : List UInt8 := [170, 0, 0, 0, 69, 0, 0, 0, 0, 0, 0, 0, 3, 0, 0, 0, 29, 0, 0, 0, 39, 0, 0, 0, 49, 0, 0, 0, 59]
abbrev dktX2_micAt_1 : List UInt8 := dkwX2_micAt_1 ++ dktX2_micAt_2
def dkwX2_micAt_0 : List UInt8 := [42, 42, 27, 182, 1, 81, 182, 1, 84, 154, 0, 5, 3, 172, 28]
abbrev dktX2_micAt_0 : List UInt8 := dkwX2_micAt_0 ++ dktX2_micAt_1
theorem dksX2_micAt_0 : cX2_micAt.data.toList.drop 0 = dktX2_micAt_0 := by decide +kernel
theorem dksX2_micAt_1 : cX2_micAt.data.toList.drop 15 = dktX2_micAt_1 := dk_seg dksX2_micAt_0 15 rfl rfl
theorem dksX2_micAt_2 : cX2_micAt.data.toList.drop 44 = dktX2_micAt_2 := dk_seg dksX2_micAt_1 29 rfl rfl
theorem dksX2_micAt_3 : cX2_micAt.data.toList.drop 68 = dktX2_micAt_3 := dk_seg dksX2_micAt_2 24 rfl rfl
theorem dX2_micAt_0 : decode cX2_micAt 0 = .ok (.aload_n 0, 1) := dk_42 (dk_at dksX2_micAt_0 0 rfl rfl)
theorem dX2_micAt_1 : decode cX2_micAt 1 = .ok (.aload_n 0, 1) := dk_42 (dk_at dksX2_micAt_0 1 rfl rfl)
theorem dX2_micAt_2 : decode cX2_micAt 2 = .ok (.iload_n 1, 1) := dk_27 (dk_at dksX2_micAt_0 2 rfl rfl)
theorem dX2_micAt_3 : decode cX2_micAt 3 = .ok (.invokevirtual 337, 3) := dk_182 1 81 (dk_at dksX2_micAt_0 3 rfl rfl)
theorem dX2_micAt_6 : decode cX2_micAt 6 = .ok (.invokevirtual 340, 3) := dk_182 1 84 (dk_at dksX2_micAt_0 6 rfl rfl)
theorem dX2_micAt_9 : decode cX2_micAt 9 = .ok (.ifCond .ne 5, 3) := dk_154 0 5 (dk_at dksX2_micAt_0 9 rfl rfl)
theorem dX2_micAt_12 : decode cX2_micAt 12 = .ok (.iconst 0, 1) := dk_3 (dk_at dksX2_micAt_0 12 rfl rfl)
theorem dX2_micAt_13 : decode cX2_micAt 13 = .ok (.ireturn, 1) := dk_172 (dk_at dksX2_micAt_0 13 rfl rfl)
theorem dX2_micAt_14 : decode cX2_micAt 14 = .ok (.iload_n 2, 1) := dk_28 (dk_at dksX2_micAt_0 14 rfl rfl)
theorem dX2_micAt_15 : decode cX2_micAt 15 = .ok (.tableswitch 69 0 3 #[29, 39, 49, 59], 29) := by decide +kernel
theorem dX2_micAt_44 : decode cX2_micAt 44 = .ok (.aload_n 0, 1) := dk_42 (dk_at dksX2_micAt_2 0 rfl rfl)
theorem dX2_micAt_45 : decode cX2_micAt 45 = .ok (.getfield 17, 3) := dk_180 0 17 (dk_at dksX2_micAt_2 1 rfl rfl)
theorem dX2_micAt_48 : decode cX2_micAt 48 = .ok (.bipush 11, 2) := dk_16 11 (dk_at dksX2_micAt_2 4 rfl rfl)
theorem dX2_micAt_50 : decode cX2_micAt 50 = .ok (.iload_n 1, 1) := dk_27 (dk_at dksX2_micAt_2 6 rfl rfl)
theorem dX2_micAt_51 : decode cX2_micAt 51 = .ok (.iadd, 1) := dk_96 (dk_at dksX2_micAt_2 7 rfl rfl)
theorem dX2_micAt_52 : decode cX2_micAt 52 = .ok (.iaload, 1) := dk_46 (dk_at dksX2_micAt_2 8 rfl rfl)
theorem dX2_micAt_53 : decode cX2_micAt 53 = .ok (.ireturn, 1) := dk_172 (dk_at dksX2_micAt_2 9 rfl rfl)
theorem dX2_micAt_54 : decode cX2_micAt 54 = .ok (.aload_n 0, 1) := dk_42 (dk_at dksX2_micAt_2 10 rfl rfl)
theorem dX2_micAt_55 : decode cX2_micAt 55 = .ok (.getfield 17, 3) := dk_180 0 17 (dk_at dksX2_micAt_2 11 rfl rfl)
theorem dX2_micAt_58 : decode cX2_micAt 58 = .ok (.bipush 23, 2) := dk_16 23 (dk_at dksX2_micAt_2 14 rfl rfl)
theorem dX2_micAt_60 : decode cX2_micAt 60 = .ok (.iload_n 1, 1) := dk_27 (dk_at dksX2_micAt_2 16 rfl rfl)
theorem dX2_micAt_61 : decode cX2_micAt 61 = .ok (.iadd, 1) := dk_96 (dk_at dksX2_micAt_2 17 rfl rfl)
theorem dX2_micAt_62 : decode cX2_micAt 62 = .ok (.iaload, 1) := dk_46 (dk_at dksX2_micAt_2 18 rfl rfl)
theorem dX2_micAt_63 : decode cX2_micAt 63 = .ok (.ireturn, 1) := dk_172 (dk_at dksX2_micAt_2 19 rfl rfl)
theorem dX2_micAt_64 : decode cX2_micAt 64 = .ok (.aload_n 0, 1) := dk_42 (dk_at dksX2_micAt_2 20 rfl rfl)
theorem dX2_micAt_65 : decode cX2_micAt 65 = .ok (.getfield 17, 3) := dk_180 0 17 (dk_at dksX2_micAt_2 21 rfl rfl)
theorem dX2_micAt_68 : decode cX2_micAt 68 = .ok (.bipush 35, 2) := dk_16 35 (dk_at dksX2_micAt_3 0 rfl rfl)
theorem dX2_micAt_70 : decode cX2_micAt 70 = .ok (.iload_n 1, 1) := dk_27 (dk_at dksX2_micAt_3 2 rfl rfl)
theorem dX2_micAt_71 : decode cX2_micAt 71 = .ok (.iadd, 1) := dk_96 (dk_at dksX2_micAt_3 3 rfl rfl)
theorem dX2_micAt_72 : decode cX2_micAt 72 = .ok (.iaload, 1) := dk_46 (dk_at dksX2_micAt_3 4 rfl rfl)
theorem dX2_micAt_73 : decode cX2_micAt 73 = .ok (.ireturn, 1) := dk_172 (dk_at dksX2_micAt_3 5 rfl rfl)
theorem dX2_micAt_74 : decode cX2_micAt 74 = .ok (.aload_n 0, 1) := dk_42 (dk_at dksX2_micAt_3 6 rfl rfl)
theorem dX2_micAt_75 : decode cX2_micAt 75 = .ok (.getfield 23, 3) := dk_180 0 23 (dk_at dksX2_micAt_3 7 rfl rfl)
theorem dX2_micAt_78 : decode cX2_micAt 78 = .ok (.bipush 13, 2) := dk_16 13 (dk_at dksX2_micAt_3 10 rfl rfl)
theorem dX2_micAt_80 : decode cX2_micAt 80 = .ok (.iload_n 1, 1) := dk_27 (dk_at dksX2_micAt_3 12 rfl rfl)
theorem dX2_micAt_81 : decode cX2_micAt 81 = .ok (.iadd, 1) := dk_96 (dk_at dksX2_micAt_3 13 rfl rfl)
theorem dX2_micAt_82 : decode cX2_micAt 82 = .ok (.iaload, 1) := dk_46 (dk_at dksX2_micAt_3 14 rfl rfl)
theorem dX2_micAt_83 : decode cX2_micAt 83 = .ok (.ireturn, 1) := dk_172 (dk_at dksX2_micAt_3 15 rfl rfl)
theorem dX2_micAt_84 : decode cX2_micAt 84 = .ok (.aload_n 0, 1) := dk_42 (dk_at dksX2_micAt_3 16 rfl rfl)
theorem dX2_micAt_85 : decode cX2_micAt 85 = .ok (.iconst 3, 1) := dk_6 (dk_at dksX2_micAt_3 17 rfl rfl)
theorem dX2_micAt_86 : decode cX2_micAt 86 = .ok (.invokevirtual 227, 3) := dk_182 0 227 (dk_at dksX2_micAt_3 18 rfl rfl)
theorem dX2_micAt_89 : decode cX2_micAt 89 = .ok (.ireturn, 1) := dk_172 (dk_at dksX2_micAt_3 21 rfl rfl)
abbrev cX2_isMic : ByteArray := prog_15_method_64_code
def yX2_isMic : MethodName := ⟨RX2, "isMic", "(I)Z"⟩
def dkwX2_isMic_0 : List UInt8 := [27, 3, 42, 180, 0, 17, 7, 46, 4, 100, 184, 0, 96, 172]
abbrev dktX2_isMic_0 : List UInt8 := dkwX2_isMic_0 ++ []
theorem dksX2_isMic_0 : cX2_isMic.data.toList.drop 0 = dktX2_isMic_0 := by decide +kernel
theorem dX2_isMic_0 : decode cX2_isMic 0 = .ok (.iload_n 1, 1) := dk_27 (dk_at dksX2_isMic_0 0 rfl rfl)
theorem dX2_isMic_1 : decode cX2_isMic 1 = .ok (.iconst 0, 1) := dk_3 (dk_at dksX2_isMic_0 1 rfl rfl)
theorem dX2_isMic_2 : decode cX2_isMic 2 = .ok (.aload_n 0, 1) := dk_42 (dk_at dksX2_isMic_0 2 rfl rfl)
theorem dX2_isMic_3 : decode cX2_isMic 3 = .ok (.getfield 17, 3) := dk_180 0 17 (dk_at dksX2_isMic_0 3 rfl rfl)
theorem dX2_isMic_6 : decode cX2_isMic 6 = .ok (.iconst 4, 1) := dk_7 (dk_at dksX2_isMic_0 6 rfl rfl)
theorem dX2_isMic_7 : decode cX2_isMic 7 = .ok (.iaload, 1) := dk_46 (dk_at dksX2_isMic_0 7 rfl rfl)
theorem dX2_isMic_8 : decode cX2_isMic 8 = .ok (.iconst 1, 1) := dk_4 (dk_at dksX2_isMic_0 8 rfl rfl)
theorem dX2_isMic_9 : decode cX2_isMic 9 = .ok (.isub, 1) := dk_100 (dk_at dksX2_isMic_0 9 rfl rfl)
theorem dX2_isMic_10 : decode cX2_isMic 10 = .ok (.invokestatic 96, 3) := dk_184 0 96 (dk_at dksX2_isMic_0 10 rfl rfl)
theorem dX2_isMic_13 : decode cX2_isMic 13 = .ok (.ireturn, 1) := dk_172 (dk_at dksX2_isMic_0 13 rfl rfl)
abbrev cX2_mayAsk : ByteArray := prog_15_method_62_code
def yX2_mayAsk : MethodName := ⟨RX2, "mayAsk", "(Z)Z"⟩
def dkwX2_mayAsk_1 : List UInt8 := [42, 180, 0, 67, 154, 0, 7, 4, 167, 0, 4, 3, 172]
abbrev dktX2_mayAsk_1 : List UInt8 := dkwX2_mayAsk_1 ++ []
def dkwX2_mayAsk_0 : List UInt8 := [42, 42, 180, 0, 251, 154, 0, 7, 4, 167, 0, 12, 27, 153, 0, 7, 3, 167, 0, 4, 5, 181, 0, 67]
abbrev dktX2_mayAsk_0 : List UInt8 := dkwX2_mayAsk_0 ++ dktX2_mayAsk_1
theorem dksX2_mayAsk_0 : cX2_mayAsk.data.toList.drop 0 = dktX2_mayAsk_0 := by decide +kernel
theorem dksX2_mayAsk_1 : cX2_mayAsk.data.toList.drop 24 = dktX2_mayAsk_1 := dk_seg dksX2_mayAsk_0 24 rfl rfl
theorem dX2_mayAsk_0 : decode cX2_mayAsk 0 = .ok (.aload_n 0, 1) := dk_42 (dk_at dksX2_mayAsk_0 0 rfl rfl)
theorem dX2_mayAsk_1 : decode cX2_mayAsk 1 = .ok (.aload_n 0, 1) := dk_42 (dk_at dksX2_mayAsk_0 1 rfl rfl)
theorem dX2_mayAsk_2 : decode cX2_mayAsk 2 = .ok (.getfield 251, 3) := dk_180 0 251 (dk_at dksX2_mayAsk_0 2 rfl rfl)
theorem dX2_mayAsk_5 : decode cX2_mayAsk 5 = .ok (.ifCond .ne 7, 3) := dk_154 0 7 (dk_at dksX2_mayAsk_0 5 rfl rfl)
theorem dX2_mayAsk_8 : decode cX2_mayAsk 8 = .ok (.iconst 1, 1) := dk_4 (dk_at dksX2_mayAsk_0 8 rfl rfl)
theorem dX2_mayAsk_9 : decode cX2_mayAsk 9 = .ok (.goto 12, 3) := dk_167 0 12 (dk_at dksX2_mayAsk_0 9 rfl rfl)
theorem dX2_mayAsk_12 : decode cX2_mayAsk 12 = .ok (.iload_n 1, 1) := dk_27 (dk_at dksX2_mayAsk_0 12 rfl rfl)
theorem dX2_mayAsk_13 : decode cX2_mayAsk 13 = .ok (.ifCond .eq 7, 3) := dk_153 0 7 (dk_at dksX2_mayAsk_0 13 rfl rfl)
theorem dX2_mayAsk_16 : decode cX2_mayAsk 16 = .ok (.iconst 0, 1) := dk_3 (dk_at dksX2_mayAsk_0 16 rfl rfl)
theorem dX2_mayAsk_17 : decode cX2_mayAsk 17 = .ok (.goto 4, 3) := dk_167 0 4 (dk_at dksX2_mayAsk_0 17 rfl rfl)
theorem dX2_mayAsk_20 : decode cX2_mayAsk 20 = .ok (.iconst 2, 1) := dk_5 (dk_at dksX2_mayAsk_0 20 rfl rfl)
theorem dX2_mayAsk_21 : decode cX2_mayAsk 21 = .ok (.putfield 67, 3) := dk_181 0 67 (dk_at dksX2_mayAsk_0 21 rfl rfl)
theorem dX2_mayAsk_24 : decode cX2_mayAsk 24 = .ok (.aload_n 0, 1) := dk_42 (dk_at dksX2_mayAsk_1 0 rfl rfl)
theorem dX2_mayAsk_25 : decode cX2_mayAsk 25 = .ok (.getfield 67, 3) := dk_180 0 67 (dk_at dksX2_mayAsk_1 1 rfl rfl)
theorem dX2_mayAsk_28 : decode cX2_mayAsk 28 = .ok (.ifCond .ne 7, 3) := dk_154 0 7 (dk_at dksX2_mayAsk_1 4 rfl rfl)
theorem dX2_mayAsk_31 : decode cX2_mayAsk 31 = .ok (.iconst 1, 1) := dk_4 (dk_at dksX2_mayAsk_1 7 rfl rfl)
theorem dX2_mayAsk_32 : decode cX2_mayAsk 32 = .ok (.goto 4, 3) := dk_167 0 4 (dk_at dksX2_mayAsk_1 8 rfl rfl)
theorem dX2_mayAsk_35 : decode cX2_mayAsk 35 = .ok (.iconst 0, 1) := dk_3 (dk_at dksX2_mayAsk_1 11 rfl rfl)
theorem dX2_mayAsk_36 : decode cX2_mayAsk 36 = .ok (.ireturn, 1) := dk_172 (dk_at dksX2_mayAsk_1 12 rfl rfl)
abbrev cX2_isMuted : ByteArray := prog_15_method_71_code
def yX2_isMuted : MethodName := ⟨RX2, "isMuted", "(I)Z"⟩
def dkwX2_isMuted_1 : List UInt8 := [4, 167, 0, 4, 3, 172]
abbrev dktX2_isMuted_1 : List UInt8 := dkwX2_isMuted_1 ++ []
def dkwX2_isMuted_0 : List UInt8 := [42, 42, 27, 182, 1, 81, 182, 1, 84, 153, 0, 19, 42, 42, 180, 0, 23, 27, 182, 1, 48, 154, 0, 7]
abbrev dktX2_isMuted_0 : List UInt8 := dkwX2_isMuted_0 ++ dktX2_isMuted_1
theorem dksX2_isMuted_0 : cX2_isMuted.data.toList.drop 0 = dktX2_isMuted_0 := by decide +kernel
theorem dksX2_isMuted_1 : cX2_isMuted.data.toList.drop 24 = dktX2_isMuted_1 := dk_seg dksX2_isMuted_0 24 rfl rfl
theorem dX2_isMuted_0 : decode cX2_isMuted 0 = .ok (.aload_n 0, 1) := dk_42 (dk_at dksX2_isMuted_0 0 rfl rfl)
theorem dX2_isMuted_1 : decode cX2_isMuted 1 = .ok (.aload_n 0, 1) := dk_42 (dk_at dksX2_isMuted_0 1 rfl rfl)
theorem dX2_isMuted_2 : decode cX2_isMuted 2 = .ok (.iload_n 1, 1) := dk_27 (dk_at dksX2_isMuted_0 2 rfl rfl)
theorem dX2_isMuted_3 : decode cX2_isMuted 3 = .ok (.invokevirtual 337, 3) := dk_182 1 81 (dk_at dksX2_isMuted_0 3 rfl rfl)
theorem dX2_isMuted_6 : decode cX2_isMuted 6 = .ok (.invokevirtual 340, 3) := dk_182 1 84 (dk_at dksX2_isMuted_0 6 rfl rfl)
theorem dX2_isMuted_9 : decode cX2_isMuted 9 = .ok (.ifCond .eq 19, 3) := dk_153 0 19 (dk_at dksX2_isMuted_0 9 rfl rfl)
theorem dX2_isMuted_12 : decode cX2_isMuted 12 = .ok (.aload_n 0, 1) := dk_42 (dk_at dksX2_isMuted_0 12 rfl rfl)
theorem dX2_isMuted_13 : decode cX2_isMuted 13 = .ok (.aload_n 0, 1) := dk_42 (dk_at dksX2_isMuted_0 13 rfl rfl)
theorem dX2_isMuted_14 : decode cX2_isMuted 14 = .ok (.getfield 23, 3) := dk_180 0 23 (dk_at dksX2_isMuted_0 14 rfl rfl)
theorem dX2_isMuted_17 : decode cX2_isMuted 17 = .ok (.iload_n 1, 1) := dk_27 (dk_at dksX2_isMuted_0 17 rfl rfl)
theorem dX2_isMuted_18 : decode cX2_isMuted 18 = .ok (.invokevirtual 304, 3) := dk_182 1 48 (dk_at dksX2_isMuted_0 18 rfl rfl)
theorem dX2_isMuted_21 : decode cX2_isMuted 21 = .ok (.ifCond .ne 7, 3) := dk_154 0 7 (dk_at dksX2_isMuted_0 21 rfl rfl)
theorem dX2_isMuted_24 : decode cX2_isMuted 24 = .ok (.iconst 1, 1) := dk_4 (dk_at dksX2_isMuted_1 0 rfl rfl)
theorem dX2_isMuted_25 : decode cX2_isMuted 25 = .ok (.goto 4, 3) := dk_167 0 4 (dk_at dksX2_isMuted_1 1 rfl rfl)
theorem dX2_isMuted_28 : decode cX2_isMuted 28 = .ok (.iconst 0, 1) := dk_3 (dk_at dksX2_isMuted_1 4 rfl rfl)
theorem dX2_isMuted_29 : decode cX2_isMuted 29 = .ok (.ireturn, 1) := dk_172 (dk_at dksX2_isMuted_1 5 rfl rfl)
abbrev cX2_hears : ByteArray := prog_15_method_54_code
def yX2_hears : MethodName := ⟨RX2, "hears", "([II)Z"⟩
def dkwX2_hears_0 : List UInt8 := [43, 4, 28, 96, 46, 154, 0, 7, 4, 167, 0, 4, 3, 172]
abbrev dktX2_hears_0 : List UInt8 := dkwX2_hears_0 ++ []
theorem dksX2_hears_0 : cX2_hears.data.toList.drop 0 = dktX2_hears_0 := by decide +kernel
theorem dX2_hears_0 : decode cX2_hears 0 = .ok (.aload_n 1, 1) := dk_43 (dk_at dksX2_hears_0 0 rfl rfl)
theorem dX2_hears_1 : decode cX2_hears 1 = .ok (.iconst 1, 1) := dk_4 (dk_at dksX2_hears_0 1 rfl rfl)
theorem dX2_hears_2 : decode cX2_hears 2 = .ok (.iload_n 2, 1) := dk_28 (dk_at dksX2_hears_0 2 rfl rfl)
theorem dX2_hears_3 : decode cX2_hears 3 = .ok (.iadd, 1) := dk_96 (dk_at dksX2_hears_0 3 rfl rfl)
theorem dX2_hears_4 : decode cX2_hears 4 = .ok (.iaload, 1) := dk_46 (dk_at dksX2_hears_0 4 rfl rfl)
theorem dX2_hears_5 : decode cX2_hears 5 = .ok (.ifCond .ne 7, 3) := dk_154 0 7 (dk_at dksX2_hears_0 5 rfl rfl)
theorem dX2_hears_8 : decode cX2_hears 8 = .ok (.iconst 1, 1) := dk_4 (dk_at dksX2_hears_0 8 rfl rfl)
theorem dX2_hears_9 : decode cX2_hears 9 = .ok (.goto 4, 3) := dk_167 0 4 (dk_at dksX2_hears_0 9 rfl rfl)
theorem dX2_hears_12 : decode cX2_hears 12 = .ok (.iconst 0, 1) := dk_3 (dk_at dksX2_hears_0 12 rfl rfl)
theorem dX2_hears_13 : decode cX2_hears 13 = .ok (.ireturn, 1) := dk_172 (dk_at dksX2_hears_0 13 rfl rfl)
abbrev cX2_columns : ByteArray := prog_15_method_72_code
def yX2_columns : MethodName := ⟨RX2, "columns", "()I"⟩
def dkwX2_columns_0 : List UInt8 := [42, 42, 180, 0, 17, 16, 9, 46, 182, 1, 78, 172]
abbrev dktX2_columns_0 : List UInt8 := dkwX2_columns_0 ++ []
theorem dksX2_columns_0 : cX2_columns.data.toList.drop 0 = dktX2_columns_0 := by decide +kernel
theorem dX2_columns_0 : decode cX2_columns 0 = .ok (.aload_n 0, 1) := dk_42 (dk_at dksX2_columns_0 0 rfl rfl)
theorem dX2_columns_1 : decode cX2_columns 1 = .ok (.aload_n 0, 1) := dk_42 (dk_at dksX2_columns_0 1 rfl rfl)
theorem dX2_columns_2 : decode cX2_columns 2 = .ok (.getfield 17, 3) := dk_180 0 17 (dk_at dksX2_columns_0 2 rfl rfl)
theorem dX2_columns_5 : decode cX2_columns 5 = .ok (.bipush 9, 2) := dk_16 9 (dk_at dksX2_columns_0 5 rfl rfl)
theorem dX2_columns_7 : decode cX2_columns 7 = .ok (.iaload, 1) := dk_46 (dk_at dksX2_columns_0 7 rfl rfl)
theorem dX2_columns_8 : decode cX2_columns 8 = .ok (.invokevirtual 334, 3) := dk_182 1 78 (dk_at dksX2_columns_0 8 rfl rfl)
theorem dX2_columns_11 : decode cX2_columns 11 = .ok (.ireturn, 1) := dk_172 (dk_at dksX2_columns_0 11 rfl rfl)
abbrev cX2_rows : ByteArray := prog_15_method_73_code
def yX2_rows : MethodName := ⟨RX2, "rows", "()I"⟩
def dkwX2_rows_0 : List UInt8 := [42, 42, 180, 0, 17, 16, 10, 46, 182, 1, 78, 172]
abbrev dktX2_rows_0 : List UInt8 := dkwX2_rows_0 ++ []
theorem dksX2_rows_0 : cX2_rows.data.toList.drop 0 = dktX2_rows_0 := by decide +kernel
theorem dX2_rows_0 : decode cX2_rows 0 = .ok (.aload_n 0, 1) := dk_42 (dk_at dksX2_rows_0 0 rfl rfl)
theorem dX2_rows_1 : decode cX2_rows 1 = .ok (.aload_n 0, 1) := dk_42 (dk_at dksX2_rows_0 1 rfl rfl)
theorem dX2_rows_2 : decode cX2_rows 2 = .ok (.getfield 17, 3) := dk_180 0 17 (dk_at dksX2_rows_0 2 rfl rfl)
theorem dX2_rows_5 : decode cX2_rows 5 = .ok (.bipush 10, 2) := dk_16 10 (dk_at dksX2_rows_0 5 rfl rfl)
theorem dX2_rows_7 : decode cX2_rows 7 = .ok (.iaload, 1) := dk_46 (dk_at dksX2_rows_0 7 rfl rfl)
theorem dX2_rows_8 : decode cX2_rows 8 = .ok (.invokevirtual 334, 3) := dk_182 1 78 (dk_at dksX2_rows_0 8 rfl rfl)
theorem dX2_rows_11 : decode cX2_rows 11 = .ok (.ireturn, 1) := dk_172 (dk_at dksX2_rows_0 11 rfl rfl)
abbrev cX2_cellAt : ByteArray := prog_15_method_74_code
def yX2_cellAt : MethodName := ⟨RX2, "cellAt", "(II)I"⟩
def dkwX2_cellAt_1 : List UInt8 := [27, 28, 182, 0, 240, 167, 0, 8, 42, 6, 182, 0, 227, 172]
abbrev dktX2_cellAt_1 : List UInt8 := dkwX2_cellAt_1 ++ []
def dkwX2_cellAt_0 : List UInt8 := [42, 42, 27, 182, 1, 88, 182, 1, 84, 154, 0, 5, 3, 172, 28, 3, 4, 184, 0, 96, 153, 0, 12, 42]
abbrev dktX2_cellAt_0 : List UInt8 := dkwX2_cellAt_0 ++ dktX2_cellAt_1
theorem dksX2_cellAt_0 : cX2_cellAt.data.toList.drop 0 = dktX2_cellAt_0 := by decide +kernel
theorem dksX2_cellAt_1 : cX2_cellAt.data.toList.drop 24 = dktX2_cellAt_1 := dk_seg dksX2_cellAt_0 24 rfl rfl
theorem dX2_cellAt_0 : decode cX2_cellAt 0 = .ok (.aload_n 0, 1) := dk_42 (dk_at dksX2_cellAt_0 0 rfl rfl)
theorem dX2_cellAt_1 : decode cX2_cellAt 1 = .ok (.aload_n 0, 1) := dk_42 (dk_at dksX2_cellAt_0 1 rfl rfl)
theorem dX2_cellAt_2 : decode cX2_cellAt 2 = .ok (.iload_n 1, 1) := dk_27 (dk_at dksX2_cellAt_0 2 rfl rfl)
theorem dX2_cellAt_3 : decode cX2_cellAt 3 = .ok (.invokevirtual 344, 3) := dk_182 1 88 (dk_at dksX2_cellAt_0 3 rfl rfl)
theorem dX2_cellAt_6 : decode cX2_cellAt 6 = .ok (.invokevirtual 340, 3) := dk_182 1 84 (dk_at dksX2_cellAt_0 6 rfl rfl)
theorem dX2_cellAt_9 : decode cX2_cellAt 9 = .ok (.ifCond .ne 5, 3) := dk_154 0 5 (dk_at dksX2_cellAt_0 9 rfl rfl)
theorem dX2_cellAt_12 : decode cX2_cellAt 12 = .ok (.iconst 0, 1) := dk_3 (dk_at dksX2_cellAt_0 12 rfl rfl)
theorem dX2_cellAt_13 : decode cX2_cellAt 13 = .ok (.ireturn, 1) := dk_172 (dk_at dksX2_cellAt_0 13 rfl rfl)
theorem dX2_cellAt_14 : decode cX2_cellAt 14 = .ok (.iload_n 2, 1) := dk_28 (dk_at dksX2_cellAt_0 14 rfl rfl)
theorem dX2_cellAt_15 : decode cX2_cellAt 15 = .ok (.iconst 0, 1) := dk_3 (dk_at dksX2_cellAt_0 15 rfl rfl)
theorem dX2_cellAt_16 : decode cX2_cellAt 16 = .ok (.iconst 1, 1) := dk_4 (dk_at dksX2_cellAt_0 16 rfl rfl)
theorem dX2_cellAt_17 : decode cX2_cellAt 17 = .ok (.invokestatic 96, 3) := dk_184 0 96 (dk_at dksX2_cellAt_0 17 rfl rfl)
theorem dX2_cellAt_20 : decode cX2_cellAt 20 = .ok (.ifCond .eq 12, 3) := dk_153 0 12 (dk_at dksX2_cellAt_0 20 rfl rfl)
theorem dX2_cellAt_23 : decode cX2_cellAt 23 = .ok (.aload_n 0, 1) := dk_42 (dk_at dksX2_cellAt_0 23 rfl rfl)
theorem dX2_cellAt_24 : decode cX2_cellAt 24 = .ok (.iload_n 1, 1) := dk_27 (dk_at dksX2_cellAt_1 0 rfl rfl)
theorem dX2_cellAt_25 : decode cX2_cellAt 25 = .ok (.iload_n 2, 1) := dk_28 (dk_at dksX2_cellAt_1 1 rfl rfl)
theorem dX2_cellAt_26 : decode cX2_cellAt 26 = .ok (.invokevirtual 240, 3) := dk_182 0 240 (dk_at dksX2_cellAt_1 2 rfl rfl)
theorem dX2_cellAt_29 : decode cX2_cellAt 29 = .ok (.goto 8, 3) := dk_167 0 8 (dk_at dksX2_cellAt_1 5 rfl rfl)
theorem dX2_cellAt_32 : decode cX2_cellAt 32 = .ok (.aload_n 0, 1) := dk_42 (dk_at dksX2_cellAt_1 8 rfl rfl)
theorem dX2_cellAt_33 : decode cX2_cellAt 33 = .ok (.iconst 3, 1) := dk_6 (dk_at dksX2_cellAt_1 9 rfl rfl)
theorem dX2_cellAt_34 : decode cX2_cellAt 34 = .ok (.invokevirtual 227, 3) := dk_182 0 227 (dk_at dksX2_cellAt_1 10 rfl rfl)
theorem dX2_cellAt_37 : decode cX2_cellAt 37 = .ok (.ireturn, 1) := dk_172 (dk_at dksX2_cellAt_1 13 rfl rfl)
abbrev cX2_isCell : ByteArray := prog_15_method_65_code
def yX2_isCell : MethodName := ⟨RX2, "isCell", "(I)Z"⟩
def dkwX2_isCell_0 : List UInt8 := [27, 3, 42, 182, 0, 237, 4, 100, 184, 0, 96, 172]
abbrev dktX2_isCell_0 : List UInt8 := dkwX2_isCell_0 ++ []
theorem dksX2_isCell_0 : cX2_isCell.data.toList.drop 0 = dktX2_isCell_0 := by decide +kernel
theorem dX2_isCell_0 : decode cX2_isCell 0 = .ok (.iload_n 1, 1) := dk_27 (dk_at dksX2_isCell_0 0 rfl rfl)
theorem dX2_isCell_1 : decode cX2_isCell 1 = .ok (.iconst 0, 1) := dk_3 (dk_at dksX2_isCell_0 1 rfl rfl)
theorem dX2_isCell_2 : decode cX2_isCell 2 = .ok (.aload_n 0, 1) := dk_42 (dk_at dksX2_isCell_0 2 rfl rfl)
theorem dX2_isCell_3 : decode cX2_isCell 3 = .ok (.invokevirtual 237, 3) := dk_182 0 237 (dk_at dksX2_isCell_0 3 rfl rfl)
theorem dX2_isCell_6 : decode cX2_isCell 6 = .ok (.iconst 1, 1) := dk_4 (dk_at dksX2_isCell_0 6 rfl rfl)
theorem dX2_isCell_7 : decode cX2_isCell 7 = .ok (.isub, 1) := dk_100 (dk_at dksX2_isCell_0 7 rfl rfl)
theorem dX2_isCell_8 : decode cX2_isCell 8 = .ok (.invokestatic 96, 3) := dk_184 0 96 (dk_at dksX2_isCell_0 8 rfl rfl)
theorem dX2_isCell_11 : decode cX2_isCell 11 = .ok (.ireturn, 1) := dk_172 (dk_at dksX2_isCell_0 11 rfl rfl)
abbrev cX2_sources : ByteArray := prog_15_method_75_code
def yX2_sources : MethodName := ⟨RX2, "sources", "()I"⟩
def dkwX2_sources_0 : List UInt8 := [42, 42, 180, 0, 17, 8, 46, 182, 1, 78, 172]
abbrev dktX2_sources_0 : List UInt8 := dkwX2_sources_0 ++ []
theorem dksX2_sources_0 : cX2_sources.data.toList.drop 0 = dktX2_sources_0 := by decide +kernel
theorem dX2_sources_0 : decode cX2_sources 0 = .ok (.aload_n 0, 1) := dk_42 (dk_at dksX2_sources_0 0 rfl rfl)
theorem dX2_sources_1 : decode cX2_sources 1 = .ok (.aload_n 0, 1) := dk_42 (dk_at dksX2_sources_0 1 rfl rfl)
theorem dX2_sources_2 : decode cX2_sources 2 = .ok (.getfield 17, 3) := dk_180 0 17 (dk_at dksX2_sources_0 2 rfl rfl)
theorem dX2_sources_5 : decode cX2_sources 5 = .ok (.iconst 5, 1) := dk_8 (dk_at dksX2_sources_0 5 rfl rfl)
theorem dX2_sources_6 : decode cX2_sources 6 = .ok (.iaload, 1) := dk_46 (dk_at dksX2_sources_0 6 rfl rfl)
theorem dX2_sources_7 : decode cX2_sources 7 = .ok (.invokevirtual 334, 3) := dk_182 1 78 (dk_at dksX2_sources_0 7 rfl rfl)
theorem dX2_sources_10 : decode cX2_sources 10 = .ok (.ireturn, 1) := dk_172 (dk_at dksX2_sources_0 10 rfl rfl)
abbrev cX2_sourceAt : ByteArray := prog_15_method_76_code
def yX2_sourceAt : MethodName := ⟨RX2, "sourceAt", "(III)I"⟩
def dkwX2_sourceAt_2 : List UInt8 := [182, 0, 227, 172]
abbrev dktX2_sourceAt_2 : List UInt8 := dkwX2_sourceAt_2 ++ []
def dkwX2_sourceAt_1 : List UInt8 := [29, 182, 1, 94, 153, 0, 17, 42, 42, 180, 0, 23, 27, 28, 29, 182, 1, 34, 167, 0, 8, 42, 6]
abbrev dktX2_sourceAt_1 : List UInt8 := dkwX2_sourceAt_1 ++ dktX2_sourceAt_2
def dkwX2_sourceAt_0 : List UInt8 := [42, 42, 27, 182, 1, 91, 182, 1, 84, 154, 0, 5, 3, 172, 28, 3, 4, 184, 0, 96, 153, 0, 25, 42]
abbrev dktX2_sourceAt_0 : List UInt8 := dkwX2_sourceAt_0 ++ dktX2_sourceAt_1
theorem dksX2_sourceAt_0 : cX2_sourceAt.data.toList.drop 0 = dktX2_sourceAt_0 := by decide +kernel
theorem dksX2_sourceAt_1 : cX2_sourceAt.data.toList.drop 24 = dktX2_sourceAt_1 := dk_seg dksX2_sourceAt_0 24 rfl rfl
theorem dksX2_sourceAt_2 : cX2_sourceAt.data.toList.drop 47 = dktX2_sourceAt_2 := dk_seg dksX2_sourceAt_1 23 rfl rfl
theorem dX2_sourceAt_0 : decode cX2_sourceAt 0 = .ok (.aload_n 0, 1) := dk_42 (dk_at dksX2_sourceAt_0 0 rfl rfl)
theorem dX2_sourceAt_1 : decode cX2_sourceAt 1 = .ok (.aload_n 0, 1) := dk_42 (dk_at dksX2_sourceAt_0 1 rfl rfl)
theorem dX2_sourceAt_2 : decode cX2_sourceAt 2 = .ok (.iload_n 1, 1) := dk_27 (dk_at dksX2_sourceAt_0 2 rfl rfl)
theorem dX2_sourceAt_3 : decode cX2_sourceAt 3 = .ok (.invokevirtual 347, 3) := dk_182 1 91 (dk_at dksX2_sourceAt_0 3 rfl rfl)
theorem dX2_sourceAt_6 : decode cX2_sourceAt 6 = .ok (.invokevirtual 340, 3) := dk_182 1 84 (dk_at dksX2_sourceAt_0 6 rfl rfl)
theorem dX2_sourceAt_9 : decode cX2_sourceAt 9 = .ok (.ifCond .ne 5, 3) := dk_154 0 5 (dk_at dksX2_sourceAt_0 9 rfl rfl)
theorem dX2_sourceAt_12 : decode cX2_sourceAt 12 = .ok (.iconst 0, 1) := dk_3 (dk_at dksX2_sourceAt_0 12 rfl rfl)
theorem dX2_sourceAt_13 : decode cX2_sourceAt 13 = .ok (.ireturn, 1) := dk_172 (dk_at dksX2_sourceAt_0 13 rfl rfl)
theorem dX2_sourceAt_14 : decode cX2_sourceAt 14 = .ok (.iload_n 2, 1) := dk_28 (dk_at dksX2_sourceAt_0 14 rfl rfl)
theorem dX2_sourceAt_15 : decode cX2_sourceAt 15 = .ok (.iconst 0, 1) := dk_3 (dk_at dksX2_sourceAt_0 15 rfl rfl)
theorem dX2_sourceAt_16 : decode cX2_sourceAt 16 = .ok (.iconst 1, 1) := dk_4 (dk_at dksX2_sourceAt_0 16 rfl rfl)
theorem dX2_sourceAt_17 : decode cX2_sourceAt 17 = .ok (.invokestatic 96, 3) := dk_184 0 96 (dk_at dksX2_sourceAt_0 17 rfl rfl)
theorem dX2_sourceAt_20 : decode cX2_sourceAt 20 = .ok (.ifCond .eq 25, 3) := dk_153 0 25 (dk_at dksX2_sourceAt_0 20 rfl rfl)
theorem dX2_sourceAt_23 : decode cX2_sourceAt 23 = .ok (.aload_n 0, 1) := dk_42 (dk_at dksX2_sourceAt_0 23 rfl rfl)
theorem dX2_sourceAt_24 : decode cX2_sourceAt 24 = .ok (.iload_n 3, 1) := dk_29 (dk_at dksX2_sourceAt_1 0 rfl rfl)
theorem dX2_sourceAt_25 : decode cX2_sourceAt 25 = .ok (.invokevirtual 350, 3) := dk_182 1 94 (dk_at dksX2_sourceAt_1 1 rfl rfl)
theorem dX2_sourceAt_28 : decode cX2_sourceAt 28 = .ok (.ifCond .eq 17, 3) := dk_153 0 17 (dk_at dksX2_sourceAt_1 4 rfl rfl)
theorem dX2_sourceAt_31 : decode cX2_sourceAt 31 = .ok (.aload_n 0, 1) := dk_42 (dk_at dksX2_sourceAt_1 7 rfl rfl)
theorem dX2_sourceAt_32 : decode cX2_sourceAt 32 = .ok (.aload_n 0, 1) := dk_42 (dk_at dksX2_sourceAt_1 8 rfl rfl)
theorem dX2_sourceAt_33 : decode cX2_sourceAt 33 = .ok (.getfield 23, 3) := dk_180 0 23 (dk_at dksX2_sourceAt_1 9 rfl rfl)
theorem dX2_sourceAt_36 : decode cX2_sourceAt 36 = .ok (.iload_n 1, 1) := dk_27 (dk_at dksX2_sourceAt_1 12 rfl rfl)
theorem dX2_sourceAt_37 : decode cX2_sourceAt 37 = .ok (.iload_n 2, 1) := dk_28 (dk_at dksX2_sourceAt_1 13 rfl rfl)
theorem dX2_sourceAt_38 : decode cX2_sourceAt 38 = .ok (.iload_n 3, 1) := dk_29 (dk_at dksX2_sourceAt_1 14 rfl rfl)
theorem dX2_sourceAt_39 : decode cX2_sourceAt 39 = .ok (.invokevirtual 290, 3) := dk_182 1 34 (dk_at dksX2_sourceAt_1 15 rfl rfl)
theorem dX2_sourceAt_42 : decode cX2_sourceAt 42 = .ok (.goto 8, 3) := dk_167 0 8 (dk_at dksX2_sourceAt_1 18 rfl rfl)
theorem dX2_sourceAt_45 : decode cX2_sourceAt 45 = .ok (.aload_n 0, 1) := dk_42 (dk_at dksX2_sourceAt_1 21 rfl rfl)
theorem dX2_sourceAt_46 : decode cX2_sourceAt 46 = .ok (.iconst 3, 1) := dk_6 (dk_at dksX2_sourceAt_1 22 rfl rfl)
theorem dX2_sourceAt_47 : decode cX2_sourceAt 47 = .ok (.invokevirtual 227, 3) := dk_182 0 227 (dk_at dksX2_sourceAt_2 0 rfl rfl)
theorem dX2_sourceAt_50 : decode cX2_sourceAt 50 = .ok (.ireturn, 1) := dk_172 (dk_at dksX2_sourceAt_2 3 rfl rfl)
abbrev cX2_isSource : ByteArray := prog_15_method_66_code
def yX2_isSource : MethodName := ⟨RX2, "isSource", "(I)Z"⟩
def dkwX2_isSource_0 : List UInt8 := [27, 3, 42, 180, 0, 17, 8, 46, 4, 100, 184, 0, 96, 172]
abbrev dktX2_isSource_0 : List UInt8 := dkwX2_isSource_0 ++ []
theorem dksX2_isSource_0 : cX2_isSource.data.toList.drop 0 = dktX2_isSource_0 := by decide +kernel
theorem dX2_isSource_0 : decode cX2_isSource 0 = .ok (.iload_n 1, 1) := dk_27 (dk_at dksX2_isSource_0 0 rfl rfl)
theorem dX2_isSource_1 : decode cX2_isSource 1 = .ok (.iconst 0, 1) := dk_3 (dk_at dksX2_isSource_0 1 rfl rfl)
theorem dX2_isSource_2 : decode cX2_isSource 2 = .ok (.aload_n 0, 1) := dk_42 (dk_at dksX2_isSource_0 2 rfl rfl)
theorem dX2_isSource_3 : decode cX2_isSource 3 = .ok (.getfield 17, 3) := dk_180 0 17 (dk_at dksX2_isSource_0 3 rfl rfl)
theorem dX2_isSource_6 : decode cX2_isSource 6 = .ok (.iconst 5, 1) := dk_8 (dk_at dksX2_isSource_0 6 rfl rfl)
theorem dX2_isSource_7 : decode cX2_isSource 7 = .ok (.iaload, 1) := dk_46 (dk_at dksX2_isSource_0 7 rfl rfl)
theorem dX2_isSource_8 : decode cX2_isSource 8 = .ok (.iconst 1, 1) := dk_4 (dk_at dksX2_isSource_0 8 rfl rfl)
theorem dX2_isSource_9 : decode cX2_isSource 9 = .ok (.isub, 1) := dk_100 (dk_at dksX2_isSource_0 9 rfl rfl)
theorem dX2_isSource_10 : decode cX2_isSource 10 = .ok (.invokestatic 96, 3) := dk_184 0 96 (dk_at dksX2_isSource_0 10 rfl rfl)
theorem dX2_isSource_13 : decode cX2_isSource 13 = .ok (.ireturn, 1) := dk_172 (dk_at dksX2_isSource_0 13 rfl rfl)
abbrev cX2_isTime : ByteArray := prog_15_method_67_code
def yX2_isTime : MethodName := ⟨RX2, "isTime", "(I)Z"⟩
def dkwX2_isTime_0 : List UInt8 := [27, 3, 42, 180, 0, 17, 5, 46, 4, 100, 184, 0, 96, 172]
abbrev dktX2_isTime_0 : List UInt8 := dkwX2_isTime_0 ++ []
theorem dksX2_isTime_0 : cX2_isTime.data.toList.drop 0 = dktX2_isTime_0 := by decide +kernel
theorem dX2_isTime_0 : decode cX2_isTime 0 = .ok (.iload_n 1, 1) := dk_27 (dk_at dksX2_isTime_0 0 rfl rfl)
theorem dX2_isTime_1 : decode cX2_isTime 1 = .ok (.iconst 0, 1) := dk_3 (dk_at dksX2_isTime_0 1 rfl rfl)
theorem dX2_isTime_2 : decode cX2_isTime 2 = .ok (.aload_n 0, 1) := dk_42 (dk_at dksX2_isTime_0 2 rfl rfl)
theorem dX2_isTime_3 : decode cX2_isTime 3 = .ok (.getfield 17, 3) := dk_180 0 17 (dk_at dksX2_isTime_0 3 rfl rfl)
theorem dX2_isTime_6 : decode cX2_isTime 6 = .ok (.iconst 2, 1) := dk_5 (dk_at dksX2_isTime_0 6 rfl rfl)
theorem dX2_isTime_7 : decode cX2_isTime 7 = .ok (.iaload, 1) := dk_46 (dk_at dksX2_isTime_0 7 rfl rfl)
theorem dX2_isTime_8 : decode cX2_isTime 8 = .ok (.iconst 1, 1) := dk_4 (dk_at dksX2_isTime_0 8 rfl rfl)
theorem dX2_isTime_9 : decode cX2_isTime 9 = .ok (.isub, 1) := dk_100 (dk_at dksX2_isTime_0 9 rfl rfl)
theorem dX2_isTime_10 : decode cX2_isTime 10 = .ok (.invokestatic 96, 3) := dk_184 0 96 (dk_at dksX2_isTime_0 10 rfl rfl)
theorem dX2_isTime_13 : decode cX2_isTime 13 = .ok (.ireturn, 1) := dk_172 (dk_at dksX2_isTime_0 13 rfl rfl)
abbrev cX2_isOn : ByteArray := prog_15_method_77_code
def yX2_isOn : MethodName := ⟨RX2, "isOn", "(I)Z"⟩
def dkwX2_isOn_1 : List UInt8 := [160, 0, 7, 4, 167, 0, 4, 3, 172]
abbrev dktX2_isOn_1 : List UInt8 := dkwX2_isOn_1 ++ []
def dkwX2_isOn_0 : List UInt8 := [42, 42, 27, 182, 1, 91, 182, 1, 84, 153, 0, 20, 42, 180, 0, 23, 16, 25, 27, 96, 46, 4]
abbrev dktX2_isOn_0 : List UInt8 := dkwX2_isOn_0 ++ dktX2_isOn_1
theorem dksX2_isOn_0 : cX2_isOn.data.toList.drop 0 = dktX2_isOn_0 := by decide +kernel
theorem dksX2_isOn_1 : cX2_isOn.data.toList.drop 22 = dktX2_isOn_1 := dk_seg dksX2_isOn_0 22 rfl rfl
theorem dX2_isOn_0 : decode cX2_isOn 0 = .ok (.aload_n 0, 1) := dk_42 (dk_at dksX2_isOn_0 0 rfl rfl)
theorem dX2_isOn_1 : decode cX2_isOn 1 = .ok (.aload_n 0, 1) := dk_42 (dk_at dksX2_isOn_0 1 rfl rfl)
theorem dX2_isOn_2 : decode cX2_isOn 2 = .ok (.iload_n 1, 1) := dk_27 (dk_at dksX2_isOn_0 2 rfl rfl)
theorem dX2_isOn_3 : decode cX2_isOn 3 = .ok (.invokevirtual 347, 3) := dk_182 1 91 (dk_at dksX2_isOn_0 3 rfl rfl)
theorem dX2_isOn_6 : decode cX2_isOn 6 = .ok (.invokevirtual 340, 3) := dk_182 1 84 (dk_at dksX2_isOn_0 6 rfl rfl)
theorem dX2_isOn_9 : decode cX2_isOn 9 = .ok (.ifCond .eq 20, 3) := dk_153 0 20 (dk_at dksX2_isOn_0 9 rfl rfl)
theorem dX2_isOn_12 : decode cX2_isOn 12 = .ok (.aload_n 0, 1) := dk_42 (dk_at dksX2_isOn_0 12 rfl rfl)
theorem dX2_isOn_13 : decode cX2_isOn 13 = .ok (.getfield 23, 3) := dk_180 0 23 (dk_at dksX2_isOn_0 13 rfl rfl)
theorem dX2_isOn_16 : decode cX2_isOn 16 = .ok (.bipush 25, 2) := dk_16 25 (dk_at dksX2_isOn_0 16 rfl rfl)
theorem dX2_isOn_18 : decode cX2_isOn 18 = .ok (.iload_n 1, 1) := dk_27 (dk_at dksX2_isOn_0 18 rfl rfl)
theorem dX2_isOn_19 : decode cX2_isOn 19 = .ok (.iadd, 1) := dk_96 (dk_at dksX2_isOn_0 19 rfl rfl)
theorem dX2_isOn_20 : decode cX2_isOn 20 = .ok (.iaload, 1) := dk_46 (dk_at dksX2_isOn_0 20 rfl rfl)
theorem dX2_isOn_21 : decode cX2_isOn 21 = .ok (.iconst 1, 1) := dk_4 (dk_at dksX2_isOn_0 21 rfl rfl)
theorem dX2_isOn_22 : decode cX2_isOn 22 = .ok (.if_icmp .ne 7, 3) := dk_160 0 7 (dk_at dksX2_isOn_1 0 rfl rfl)
theorem dX2_isOn_25 : decode cX2_isOn 25 = .ok (.iconst 1, 1) := dk_4 (dk_at dksX2_isOn_1 3 rfl rfl)
theorem dX2_isOn_26 : decode cX2_isOn 26 = .ok (.goto 4, 3) := dk_167 0 4 (dk_at dksX2_isOn_1 4 rfl rfl)
theorem dX2_isOn_29 : decode cX2_isOn 29 = .ok (.iconst 0, 1) := dk_3 (dk_at dksX2_isOn_1 7 rfl rfl)
theorem dX2_isOn_30 : decode cX2_isOn 30 = .ok (.ireturn, 1) := dk_172 (dk_at dksX2_isOn_1 8 rfl rfl)
abbrev cX2_waveAt : ByteArray := prog_15_method_78_code
def yX2_waveAt : MethodName := ⟨RX2, "waveAt", "(II)I"⟩
def dkwX2_waveAt_1 : List UInt8 := [28, 182, 1, 18, 167, 0, 8, 42, 6, 182, 0, 227, 172]
abbrev dktX2_waveAt_1 : List UInt8 := dkwX2_waveAt_1 ++ []
def dkwX2_waveAt_0 : List UInt8 := [42, 42, 27, 182, 1, 91, 182, 1, 84, 154, 0, 5, 3, 172, 42, 28, 182, 1, 94, 153, 0, 12, 42, 27]
abbrev dktX2_waveAt_0 : List UInt8 := dkwX2_waveAt_0 ++ dktX2_waveAt_1
theorem dksX2_waveAt_0 : cX2_waveAt.data.toList.drop 0 = dktX2_waveAt_0 := by decide +kernel
theorem dksX2_waveAt_1 : cX2_waveAt.data.toList.drop 24 = dktX2_waveAt_1 := dk_seg dksX2_waveAt_0 24 rfl rfl
theorem dX2_waveAt_0 : decode cX2_waveAt 0 = .ok (.aload_n 0, 1) := dk_42 (dk_at dksX2_waveAt_0 0 rfl rfl)
theorem dX2_waveAt_1 : decode cX2_waveAt 1 = .ok (.aload_n 0, 1) := dk_42 (dk_at dksX2_waveAt_0 1 rfl rfl)
theorem dX2_waveAt_2 : decode cX2_waveAt 2 = .ok (.iload_n 1, 1) := dk_27 (dk_at dksX2_waveAt_0 2 rfl rfl)
theorem dX2_waveAt_3 : decode cX2_waveAt 3 = .ok (.invokevirtual 347, 3) := dk_182 1 91 (dk_at dksX2_waveAt_0 3 rfl rfl)
theorem dX2_waveAt_6 : decode cX2_waveAt 6 = .ok (.invokevirtual 340, 3) := dk_182 1 84 (dk_at dksX2_waveAt_0 6 rfl rfl)
theorem dX2_waveAt_9 : decode cX2_waveAt 9 = .ok (.ifCond .ne 5, 3) := dk_154 0 5 (dk_at dksX2_waveAt_0 9 rfl rfl)
theorem dX2_waveAt_12 : decode cX2_waveAt 12 = .ok (.iconst 0, 1) := dk_3 (dk_at dksX2_waveAt_0 12 rfl rfl)
theorem dX2_waveAt_13 : decode cX2_waveAt 13 = .ok (.ireturn, 1) := dk_172 (dk_at dksX2_waveAt_0 13 rfl rfl)
theorem dX2_waveAt_14 : decode cX2_waveAt 14 = .ok (.aload_n 0, 1) := dk_42 (dk_at dksX2_waveAt_0 14 rfl rfl)
theorem dX2_waveAt_15 : decode cX2_waveAt 15 = .ok (.iload_n 2, 1) := dk_28 (dk_at dksX2_waveAt_0 15 rfl rfl)
theorem dX2_waveAt_16 : decode cX2_waveAt 16 = .ok (.invokevirtual 350, 3) := dk_182 1 94 (dk_at dksX2_waveAt_0 16 rfl rfl)
theorem dX2_waveAt_19 : decode cX2_waveAt 19 = .ok (.ifCond .eq 12, 3) := dk_153 0 12 (dk_at dksX2_waveAt_0 19 rfl rfl)
theorem dX2_waveAt_22 : decode cX2_waveAt 22 = .ok (.aload_n 0, 1) := dk_42 (dk_at dksX2_waveAt_0 22 rfl rfl)
theorem dX2_waveAt_23 : decode cX2_waveAt 23 = .ok (.iload_n 1, 1) := dk_27 (dk_at dksX2_waveAt_0 23 rfl rfl)
theorem dX2_waveAt_24 : decode cX2_waveAt 24 = .ok (.iload_n 2, 1) := dk_28 (dk_at dksX2_waveAt_1 0 rfl rfl)
theorem dX2_waveAt_25 : decode cX2_waveAt 25 = .ok (.invokevirtual 274, 3) := dk_182 1 18 (dk_at dksX2_waveAt_1 1 rfl rfl)
theorem dX2_waveAt_28 : decode cX2_waveAt 28 = .ok (.goto 8, 3) := dk_167 0 8 (dk_at dksX2_waveAt_1 4 rfl rfl)
theorem dX2_waveAt_31 : decode cX2_waveAt 31 = .ok (.aload_n 0, 1) := dk_42 (dk_at dksX2_waveAt_1 7 rfl rfl)
theorem dX2_waveAt_32 : decode cX2_waveAt 32 = .ok (.iconst 3, 1) := dk_6 (dk_at dksX2_waveAt_1 8 rfl rfl)
theorem dX2_waveAt_33 : decode cX2_waveAt 33 = .ok (.invokevirtual 227, 3) := dk_182 0 227 (dk_at dksX2_waveAt_1 9 rfl rfl)
theorem dX2_waveAt_36 : decode cX2_waveAt 36 = .ok (.ireturn, 1) := dk_172 (dk_at dksX2_waveAt_1 12 rfl rfl)
abbrev cX2_samples : ByteArray := prog_15_method_79_code
def yX2_samples : MethodName := ⟨RX2, "samples", "()I"⟩
def dkwX2_samples_0 : List UInt8 := [42, 42, 180, 0, 17, 5, 46, 182, 1, 78, 172]
abbrev dktX2_samples_0 : List UInt8 := dkwX2_samples_0 ++ []
theorem dksX2_samples_0 : cX2_samples.data.toList.drop 0 = dktX2_samples_0 := by decide +kernel
theorem dX2_samples_0 : decode cX2_samples 0 = .ok (.aload_n 0, 1) := dk_42 (dk_at dksX2_samples_0 0 rfl rfl)
theorem dX2_samples_1 : decode cX2_samples 1 = .ok (.aload_n 0, 1) := dk_42 (dk_at dksX2_samples_0 1 rfl rfl)
theorem dX2_samples_2 : decode cX2_samples 2 = .ok (.getfield 17, 3) := dk_180 0 17 (dk_at dksX2_samples_0 2 rfl rfl)
theorem dX2_samples_5 : decode cX2_samples 5 = .ok (.iconst 2, 1) := dk_5 (dk_at dksX2_samples_0 5 rfl rfl)
theorem dX2_samples_6 : decode cX2_samples 6 = .ok (.iaload, 1) := dk_46 (dk_at dksX2_samples_0 6 rfl rfl)
theorem dX2_samples_7 : decode cX2_samples 7 = .ok (.invokevirtual 334, 3) := dk_182 1 78 (dk_at dksX2_samples_0 7 rfl rfl)
theorem dX2_samples_10 : decode cX2_samples 10 = .ok (.ireturn, 1) := dk_172 (dk_at dksX2_samples_0 10 rfl rfl)
abbrev cX2_delay : ByteArray := prog_15_method_80_code
def yX2_delay : MethodName := ⟨RX2, "delay", "(II)I"⟩
def dkwX2_delay_1 : List UInt8 := [182, 1, 84, 153, 0, 17, 42, 180, 0, 38, 16, 12, 28, 104, 27, 96, 46, 167, 0, 4, 3, 172]
abbrev dktX2_delay_1 : List UInt8 := dkwX2_delay_1 ++ []
def dkwX2_delay_0 : List UInt8 := [42, 42, 27, 182, 1, 81, 153, 0, 15, 42, 28, 182, 1, 88, 153, 0, 7, 4, 167, 0, 4, 3]
abbrev dktX2_delay_0 : List UInt8 := dkwX2_delay_0 ++ dktX2_delay_1
theorem dksX2_delay_0 : cX2_delay.data.toList.drop 0 = dktX2_delay_0 := by decide +kernel
theorem dksX2_delay_1 : cX2_delay.data.toList.drop 22 = dktX2_delay_1 := dk_seg dksX2_delay_0 22 rfl rfl
theorem dX2_delay_0 : decode cX2_delay 0 = .ok (.aload_n 0, 1) := dk_42 (dk_at dksX2_delay_0 0 rfl rfl)
theorem dX2_delay_1 : decode cX2_delay 1 = .ok (.aload_n 0, 1) := dk_42 (dk_at dksX2_delay_0 1 rfl rfl)
theorem dX2_delay_2 : decode cX2_delay 2 = .ok (.iload_n 1, 1) := dk_27 (dk_at dksX2_delay_0 2 rfl rfl)
theorem dX2_delay_3 : decode cX2_delay 3 = .ok (.invokevirtual 337, 3) := dk_182 1 81 (dk_at dksX2_delay_0 3 rfl rfl)
theorem dX2_delay_6 : decode cX2_delay 6 = .ok (.ifCond .eq 15, 3) := dk_153 0 15 (dk_at dksX2_delay_0 6 rfl rfl)
theorem dX2_delay_9 : decode cX2_delay 9 = .ok (.aload_n 0, 1) := dk_42 (dk_at dksX2_delay_0 9 rfl rfl)
theorem dX2_delay_10 : decode cX2_delay 10 = .ok (.iload_n 2, 1) := dk_28 (dk_at dksX2_delay_0 10 rfl rfl)
theorem dX2_delay_11 : decode cX2_delay 11 = .ok (.invokevirtual 344, 3) := dk_182 1 88 (dk_at dksX2_delay_0 11 rfl rfl)
theorem dX2_delay_14 : decode cX2_delay 14 = .ok (.ifCond .eq 7, 3) := dk_153 0 7 (dk_at dksX2_delay_0 14 rfl rfl)
theorem dX2_delay_17 : decode cX2_delay 17 = .ok (.iconst 1, 1) := dk_4 (dk_at dksX2_delay_0 17 rfl rfl)
theorem dX2_delay_18 : decode cX2_delay 18 = .ok (.goto 4, 3) := dk_167 0 4 (dk_at dksX2_delay_0 18 rfl rfl)
theorem dX2_delay_21 : decode cX2_delay 21 = .ok (.iconst 0, 1) := dk_3 (dk_at dksX2_delay_0 21 rfl rfl)
theorem dX2_delay_22 : decode cX2_delay 22 = .ok (.invokevirtual 340, 3) := dk_182 1 84 (dk_at dksX2_delay_1 0 rfl rfl)
theorem dX2_delay_25 : decode cX2_delay 25 = .ok (.ifCond .eq 17, 3) := dk_153 0 17 (dk_at dksX2_delay_1 3 rfl rfl)
theorem dX2_delay_28 : decode cX2_delay 28 = .ok (.aload_n 0, 1) := dk_42 (dk_at dksX2_delay_1 6 rfl rfl)
theorem dX2_delay_29 : decode cX2_delay 29 = .ok (.getfield 38, 3) := dk_180 0 38 (dk_at dksX2_delay_1 7 rfl rfl)
theorem dX2_delay_32 : decode cX2_delay 32 = .ok (.bipush 12, 2) := dk_16 12 (dk_at dksX2_delay_1 10 rfl rfl)
theorem dX2_delay_34 : decode cX2_delay 34 = .ok (.iload_n 2, 1) := dk_28 (dk_at dksX2_delay_1 12 rfl rfl)
theorem dX2_delay_35 : decode cX2_delay 35 = .ok (.imul, 1) := dk_104 (dk_at dksX2_delay_1 13 rfl rfl)
theorem dX2_delay_36 : decode cX2_delay 36 = .ok (.iload_n 1, 1) := dk_27 (dk_at dksX2_delay_1 14 rfl rfl)
theorem dX2_delay_37 : decode cX2_delay 37 = .ok (.iadd, 1) := dk_96 (dk_at dksX2_delay_1 15 rfl rfl)
theorem dX2_delay_38 : decode cX2_delay 38 = .ok (.iaload, 1) := dk_46 (dk_at dksX2_delay_1 16 rfl rfl)
theorem dX2_delay_39 : decode cX2_delay 39 = .ok (.goto 4, 3) := dk_167 0 4 (dk_at dksX2_delay_1 17 rfl rfl)
theorem dX2_delay_42 : decode cX2_delay 42 = .ok (.iconst 0, 1) := dk_3 (dk_at dksX2_delay_1 20 rfl rfl)
theorem dX2_delay_43 : decode cX2_delay 43 = .ok (.ireturn, 1) := dk_172 (dk_at dksX2_delay_1 21 rfl rfl)
abbrev cX2_delayTo : ByteArray := prog_15_method_82_code
def yX2_delayTo : MethodName := ⟨RX2, "delayTo", "(III)I"⟩
def dkwX2_delayTo_1 : List UInt8 := [28, 29, 182, 0, 243, 167, 0, 8, 42, 6, 182, 0, 227, 172]
abbrev dktX2_delayTo_1 : List UInt8 := dkwX2_delayTo_1 ++ []
def dkwX2_delayTo_0 : List UInt8 := [42, 42, 27, 182, 1, 81, 182, 1, 84, 154, 0, 5, 3, 172, 28, 29, 184, 1, 97, 153, 0, 13, 42, 27]
abbrev dktX2_delayTo_0 : List UInt8 := dkwX2_delayTo_0 ++ dktX2_delayTo_1
theorem dksX2_delayTo_0 : cX2_delayTo.data.toList.drop 0 = dktX2_delayTo_0 := by decide +kernel
theorem dksX2_delayTo_1 : cX2_delayTo.data.toList.drop 24 = dktX2_delayTo_1 := dk_seg dksX2_delayTo_0 24 rfl rfl
theorem dX2_delayTo_0 : decode cX2_delayTo 0 = .ok (.aload_n 0, 1) := dk_42 (dk_at dksX2_delayTo_0 0 rfl rfl)
theorem dX2_delayTo_1 : decode cX2_delayTo 1 = .ok (.aload_n 0, 1) := dk_42 (dk_at dksX2_delayTo_0 1 rfl rfl)
theorem dX2_delayTo_2 : decode cX2_delayTo 2 = .ok (.iload_n 1, 1) := dk_27 (dk_at dksX2_delayTo_0 2 rfl rfl)
theorem dX2_delayTo_3 : decode cX2_delayTo 3 = .ok (.invokevirtual 337, 3) := dk_182 1 81 (dk_at dksX2_delayTo_0 3 rfl rfl)
theorem dX2_delayTo_6 : decode cX2_delayTo 6 = .ok (.invokevirtual 340, 3) := dk_182 1 84 (dk_at dksX2_delayTo_0 6 rfl rfl)
theorem dX2_delayTo_9 : decode cX2_delayTo 9 = .ok (.ifCond .ne 5, 3) := dk_154 0 5 (dk_at dksX2_delayTo_0 9 rfl rfl)
theorem dX2_delayTo_12 : decode cX2_delayTo 12 = .ok (.iconst 0, 1) := dk_3 (dk_at dksX2_delayTo_0 12 rfl rfl)
theorem dX2_delayTo_13 : decode cX2_delayTo 13 = .ok (.ireturn, 1) := dk_172 (dk_at dksX2_delayTo_0 13 rfl rfl)
theorem dX2_delayTo_14 : decode cX2_delayTo 14 = .ok (.iload_n 2, 1) := dk_28 (dk_at dksX2_delayTo_0 14 rfl rfl)
theorem dX2_delayTo_15 : decode cX2_delayTo 15 = .ok (.iload_n 3, 1) := dk_29 (dk_at dksX2_delayTo_0 15 rfl rfl)
theorem dX2_delayTo_16 : decode cX2_delayTo 16 = .ok (.invokestatic 353, 3) := dk_184 1 97 (dk_at dksX2_delayTo_0 16 rfl rfl)
theorem dX2_delayTo_19 : decode cX2_delayTo 19 = .ok (.ifCond .eq 13, 3) := dk_153 0 13 (dk_at dksX2_delayTo_0 19 rfl rfl)
theorem dX2_delayTo_22 : decode cX2_delayTo 22 = .ok (.aload_n 0, 1) := dk_42 (dk_at dksX2_delayTo_0 22 rfl rfl)
theorem dX2_delayTo_23 : decode cX2_delayTo 23 = .ok (.iload_n 1, 1) := dk_27 (dk_at dksX2_delayTo_0 23 rfl rfl)
theorem dX2_delayTo_24 : decode cX2_delayTo 24 = .ok (.iload_n 2, 1) := dk_28 (dk_at dksX2_delayTo_1 0 rfl rfl)
theorem dX2_delayTo_25 : decode cX2_delayTo 25 = .ok (.iload_n 3, 1) := dk_29 (dk_at dksX2_delayTo_1 1 rfl rfl)
theorem dX2_delayTo_26 : decode cX2_delayTo 26 = .ok (.invokevirtual 243, 3) := dk_182 0 243 (dk_at dksX2_delayTo_1 2 rfl rfl)
theorem dX2_delayTo_29 : decode cX2_delayTo 29 = .ok (.goto 8, 3) := dk_167 0 8 (dk_at dksX2_delayTo_1 5 rfl rfl)
theorem dX2_delayTo_32 : decode cX2_delayTo 32 = .ok (.aload_n 0, 1) := dk_42 (dk_at dksX2_delayTo_1 8 rfl rfl)
theorem dX2_delayTo_33 : decode cX2_delayTo 33 = .ok (.iconst 3, 1) := dk_6 (dk_at dksX2_delayTo_1 9 rfl rfl)
theorem dX2_delayTo_34 : decode cX2_delayTo 34 = .ok (.invokevirtual 227, 3) := dk_182 0 227 (dk_at dksX2_delayTo_1 10 rfl rfl)
theorem dX2_delayTo_37 : decode cX2_delayTo 37 = .ok (.ireturn, 1) := dk_172 (dk_at dksX2_delayTo_1 13 rfl rfl)
abbrev cX2_isPoint : ByteArray := prog_15_method_81_code
def yX2_isPoint : MethodName := ⟨RX2, "isPoint", "(II)Z"⟩
def dkwX2_isPoint_1 : List UInt8 := [153, 0, 7, 4, 167, 0, 4, 3, 172]
abbrev dktX2_isPoint_1 : List UInt8 := dkwX2_isPoint_1 ++ []
def dkwX2_isPoint_0 : List UInt8 := [26, 17, 216, 241, 17, 39, 15, 184, 0, 96, 153, 0, 20, 27, 17, 216, 241, 17, 39, 15, 184, 0, 96]
abbrev dktX2_isPoint_0 : List UInt8 := dkwX2_isPoint_0 ++ dktX2_isPoint_1
theorem dksX2_isPoint_0 : cX2_isPoint.data.toList.drop 0 = dktX2_isPoint_0 := by decide +kernel
theorem dksX2_isPoint_1 : cX2_isPoint.data.toList.drop 23 = dktX2_isPoint_1 := dk_seg dksX2_isPoint_0 23 rfl rfl
theorem dX2_isPoint_0 : decode cX2_isPoint 0 = .ok (.iload_n 0, 1) := dk_26 (dk_at dksX2_isPoint_0 0 rfl rfl)
theorem dX2_isPoint_1 : decode cX2_isPoint 1 = .ok (.sipush (-9999), 3) := dk_17 216 241 (dk_at dksX2_isPoint_0 1 rfl rfl)
theorem dX2_isPoint_4 : decode cX2_isPoint 4 = .ok (.sipush 9999, 3) := dk_17 39 15 (dk_at dksX2_isPoint_0 4 rfl rfl)
theorem dX2_isPoint_7 : decode cX2_isPoint 7 = .ok (.invokestatic 96, 3) := dk_184 0 96 (dk_at dksX2_isPoint_0 7 rfl rfl)
theorem dX2_isPoint_10 : decode cX2_isPoint 10 = .ok (.ifCond .eq 20, 3) := dk_153 0 20 (dk_at dksX2_isPoint_0 10 rfl rfl)
theorem dX2_isPoint_13 : decode cX2_isPoint 13 = .ok (.iload_n 1, 1) := dk_27 (dk_at dksX2_isPoint_0 13 rfl rfl)
theorem dX2_isPoint_14 : decode cX2_isPoint 14 = .ok (.sipush (-9999), 3) := dk_17 216 241 (dk_at dksX2_isPoint_0 14 rfl rfl)
theorem dX2_isPoint_17 : decode cX2_isPoint 17 = .ok (.sipush 9999, 3) := dk_17 39 15 (dk_at dksX2_isPoint_0 17 rfl rfl)
theorem dX2_isPoint_20 : decode cX2_isPoint 20 = .ok (.invokestatic 96, 3) := dk_184 0 96 (dk_at dksX2_isPoint_0 20 rfl rfl)
theorem dX2_isPoint_23 : decode cX2_isPoint 23 = .ok (.ifCond .eq 7, 3) := dk_153 0 7 (dk_at dksX2_isPoint_1 0 rfl rfl)
theorem dX2_isPoint_26 : decode cX2_isPoint 26 = .ok (.iconst 1, 1) := dk_4 (dk_at dksX2_isPoint_1 3 rfl rfl)
theorem dX2_isPoint_27 : decode cX2_isPoint 27 = .ok (.goto 4, 3) := dk_167 0 4 (dk_at dksX2_isPoint_1 4 rfl rfl)
theorem dX2_isPoint_30 : decode cX2_isPoint 30 = .ok (.iconst 0, 1) := dk_3 (dk_at dksX2_isPoint_1 7 rfl rfl)
theorem dX2_isPoint_31 : decode cX2_isPoint 31 = .ok (.ireturn, 1) := dk_172 (dk_at dksX2_isPoint_1 8 rfl rfl)
abbrev cX2_spread : ByteArray := prog_15_method_84_code
def yX2_spread : MethodName := ⟨RX2, "spread", "(I)I"⟩
def dkwX2_spread_4 : List UInt8 := [167, 255, 192, 29, 28, 100, 172]
abbrev dktX2_spread_4 : List UInt8 := dkwX2_spread_4 ++ []
def dkwX2_spread_3 : List UInt8 := [184, 1, 12, 61, 29, 42, 180, 0, 38, 16, 12, 27, 104, 21, 4, 96, 46, 184, 1, 15, 62, 132, 4, 1]
abbrev dktX2_spread_3 : List UInt8 := dkwX2_spread_3 ++ dktX2_spread_4
def dkwX2_spread_2 : List UInt8 := [182, 1, 48, 154, 0, 6, 167, 0, 37, 28, 42, 180, 0, 38, 16, 12, 27, 104, 21, 4, 96, 46]
abbrev dktX2_spread_2 : List UInt8 := dkwX2_spread_2 ++ dktX2_spread_3
def dkwX2_spread_1 : List UInt8 := [61, 3, 62, 3, 54, 4, 21, 4, 42, 180, 0, 17, 7, 46, 162, 0, 59, 42, 42, 180, 0, 23, 21, 4]
abbrev dktX2_spread_1 : List UInt8 := dkwX2_spread_1 ++ dktX2_spread_2
def dkwX2_spread_0 : List UInt8 := [42, 42, 27, 182, 1, 88, 182, 1, 84, 153, 0, 10, 42, 182, 1, 101, 154, 0, 5, 3, 172, 19, 1, 106]
abbrev dktX2_spread_0 : List UInt8 := dkwX2_spread_0 ++ dktX2_spread_1
theorem dksX2_spread_0 : cX2_spread.data.toList.drop 0 = dktX2_spread_0 := by decide +kernel
theorem dksX2_spread_1 : cX2_spread.data.toList.drop 24 = dktX2_spread_1 := dk_seg dksX2_spread_0 24 rfl rfl
theorem dksX2_spread_2 : cX2_spread.data.toList.drop 48 = dktX2_spread_2 := dk_seg dksX2_spread_1 24 rfl rfl
theorem dksX2_spread_3 : cX2_spread.data.toList.drop 70 = dktX2_spread_3 := dk_seg dksX2_spread_2 22 rfl rfl
theorem dksX2_spread_4 : cX2_spread.data.toList.drop 94 = dktX2_spread_4 := dk_seg dksX2_spread_3 24 rfl rfl
theorem dX2_spread_0 : decode cX2_spread 0 = .ok (.aload_n 0, 1) := dk_42 (dk_at dksX2_spread_0 0 rfl rfl)
theorem dX2_spread_1 : decode cX2_spread 1 = .ok (.aload_n 0, 1) := dk_42 (dk_at dksX2_spread_0 1 rfl rfl)
theorem dX2_spread_2 : decode cX2_spread 2 = .ok (.iload_n 1, 1) := dk_27 (dk_at dksX2_spread_0 2 rfl rfl)
theorem dX2_spread_3 : decode cX2_spread 3 = .ok (.invokevirtual 344, 3) := dk_182 1 88 (dk_at dksX2_spread_0 3 rfl rfl)
theorem dX2_spread_6 : decode cX2_spread 6 = .ok (.invokevirtual 340, 3) := dk_182 1 84 (dk_at dksX2_spread_0 6 rfl rfl)
theorem dX2_spread_9 : decode cX2_spread 9 = .ok (.ifCond .eq 10, 3) := dk_153 0 10 (dk_at dksX2_spread_0 9 rfl rfl)
theorem dX2_spread_12 : decode cX2_spread 12 = .ok (.aload_n 0, 1) := dk_42 (dk_at dksX2_spread_0 12 rfl rfl)
theorem dX2_spread_13 : decode cX2_spread 13 = .ok (.invokevirtual 357, 3) := dk_182 1 101 (dk_at dksX2_spread_0 13 rfl rfl)
theorem dX2_spread_16 : decode cX2_spread 16 = .ok (.ifCond .ne 5, 3) := dk_154 0 5 (dk_at dksX2_spread_0 16 rfl rfl)
theorem dX2_spread_19 : decode cX2_spread 19 = .ok (.iconst 0, 1) := dk_3 (dk_at dksX2_spread_0 19 rfl rfl)
theorem dX2_spread_20 : decode cX2_spread 20 = .ok (.ireturn, 1) := dk_172 (dk_at dksX2_spread_0 20 rfl rfl)
theorem dX2_spread_21 : decode cX2_spread 21 = .ok (.ldc_w 362, 3) := dk_19 1 106 (dk_at dksX2_spread_0 21 rfl rfl)
theorem dX2_spread_24 : decode cX2_spread 24 = .ok (.istore_n 2, 1) := dk_61 (dk_at dksX2_spread_1 0 rfl rfl)
theorem dX2_spread_25 : decode cX2_spread 25 = .ok (.iconst 0, 1) := dk_3 (dk_at dksX2_spread_1 1 rfl rfl)
theorem dX2_spread_26 : decode cX2_spread 26 = .ok (.istore_n 3, 1) := dk_62 (dk_at dksX2_spread_1 2 rfl rfl)
theorem dX2_spread_27 : decode cX2_spread 27 = .ok (.iconst 0, 1) := dk_3 (dk_at dksX2_spread_1 3 rfl rfl)
theorem dX2_spread_28 : decode cX2_spread 28 = .ok (.istore 4, 2) := dk_54 4 (dk_at dksX2_spread_1 4 rfl rfl)
theorem dX2_spread_30 : decode cX2_spread 30 = .ok (.iload 4, 2) := dk_21 4 (dk_at dksX2_spread_1 6 rfl rfl)
theorem dX2_spread_32 : decode cX2_spread 32 = .ok (.aload_n 0, 1) := dk_42 (dk_at dksX2_spread_1 8 rfl rfl)
theorem dX2_spread_33 : decode cX2_spread 33 = .ok (.getfield 17, 3) := dk_180 0 17 (dk_at dksX2_spread_1 9 rfl rfl)
theorem dX2_spread_36 : decode cX2_spread 36 = .ok (.iconst 4, 1) := dk_7 (dk_at dksX2_spread_1 12 rfl rfl)
theorem dX2_spread_37 : decode cX2_spread 37 = .ok (.iaload, 1) := dk_46 (dk_at dksX2_spread_1 13 rfl rfl)
theorem dX2_spread_38 : decode cX2_spread 38 = .ok (.if_icmp .ge 59, 3) := dk_162 0 59 (dk_at dksX2_spread_1 14 rfl rfl)
theorem dX2_spread_41 : decode cX2_spread 41 = .ok (.aload_n 0, 1) := dk_42 (dk_at dksX2_spread_1 17 rfl rfl)
theorem dX2_spread_42 : decode cX2_spread 42 = .ok (.aload_n 0, 1) := dk_42 (dk_at dksX2_spread_1 18 rfl rfl)
theorem dX2_spread_43 : decode cX2_spread 43 = .ok (.getfield 23, 3) := dk_180 0 23 (dk_at dksX2_spread_1 19 rfl rfl)
theorem dX2_spread_46 : decode cX2_spread 46 = .ok (.iload 4, 2) := dk_21 4 (dk_at dksX2_spread_1 22 rfl rfl)
theorem dX2_spread_48 : decode cX2_spread 48 = .ok (.invokevirtual 304, 3) := dk_182 1 48 (dk_at dksX2_spread_2 0 rfl rfl)
theorem dX2_spread_51 : decode cX2_spread 51 = .ok (.ifCond .ne 6, 3) := dk_154 0 6 (dk_at dksX2_spread_2 3 rfl rfl)
theorem dX2_spread_54 : decode cX2_spread 54 = .ok (.goto 37, 3) := dk_167 0 37 (dk_at dksX2_spread_2 6 rfl rfl)
theorem dX2_spread_57 : decode cX2_spread 57 = .ok (.iload_n 2, 1) := dk_28 (dk_at dksX2_spread_2 9 rfl rfl)
theorem dX2_spread_58 : decode cX2_spread 58 = .ok (.aload_n 0, 1) := dk_42 (dk_at dksX2_spread_2 10 rfl rfl)
theorem dX2_spread_59 : decode cX2_spread 59 = .ok (.getfield 38, 3) := dk_180 0 38 (dk_at dksX2_spread_2 11 rfl rfl)
theorem dX2_spread_62 : decode cX2_spread 62 = .ok (.bipush 12, 2) := dk_16 12 (dk_at dksX2_spread_2 14 rfl rfl)
theorem dX2_spread_64 : decode cX2_spread 64 = .ok (.iload_n 1, 1) := dk_27 (dk_at dksX2_spread_2 16 rfl rfl)
theorem dX2_spread_65 : decode cX2_spread 65 = .ok (.imul, 1) := dk_104 (dk_at dksX2_spread_2 17 rfl rfl)
theorem dX2_spread_66 : decode cX2_spread 66 = .ok (.iload 4, 2) := dk_21 4 (dk_at dksX2_spread_2 18 rfl rfl)
theorem dX2_spread_68 : decode cX2_spread 68 = .ok (.iadd, 1) := dk_96 (dk_at dksX2_spread_2 20 rfl rfl)
theorem dX2_spread_69 : decode cX2_spread 69 = .ok (.iaload, 1) := dk_46 (dk_at dksX2_spread_2 21 rfl rfl)
theorem dX2_spread_70 : decode cX2_spread 70 = .ok (.invokestatic 268, 3) := dk_184 1 12 (dk_at dksX2_spread_3 0 rfl rfl)
theorem dX2_spread_73 : decode cX2_spread 73 = .ok (.istore_n 2, 1) := dk_61 (dk_at dksX2_spread_3 3 rfl rfl)
theorem dX2_spread_74 : decode cX2_spread 74 = .ok (.iload_n 3, 1) := dk_29 (dk_at dksX2_spread_3 4 rfl rfl)
theorem dX2_spread_75 : decode cX2_spread 75 = .ok (.aload_n 0, 1) := dk_42 (dk_at dksX2_spread_3 5 rfl rfl)
theorem dX2_spread_76 : decode cX2_spread 76 = .ok (.getfield 38, 3) := dk_180 0 38 (dk_at dksX2_spread_3 6 rfl rfl)
theorem dX2_spread_79 : decode cX2_spread 79 = .ok (.bipush 12, 2) := dk_16 12 (dk_at dksX2_spread_3 9 rfl rfl)
theorem dX2_spread_81 : decode cX2_spread 81 = .ok (.iload_n 1, 1) := dk_27 (dk_at dksX2_spread_3 11 rfl rfl)
theorem dX2_spread_82 : decode cX2_spread 82 = .ok (.imul, 1) := dk_104 (dk_at dksX2_spread_3 12 rfl rfl)
theorem dX2_spread_83 : decode cX2_spread 83 = .ok (.iload 4, 2) := dk_21 4 (dk_at dksX2_spread_3 13 rfl rfl)
theorem dX2_spread_85 : decode cX2_spread 85 = .ok (.iadd, 1) := dk_96 (dk_at dksX2_spread_3 15 rfl rfl)
theorem dX2_spread_86 : decode cX2_spread 86 = .ok (.iaload, 1) := dk_46 (dk_at dksX2_spread_3 16 rfl rfl)
theorem dX2_spread_87 : decode cX2_spread 87 = .ok (.invokestatic 271, 3) := dk_184 1 15 (dk_at dksX2_spread_3 17 rfl rfl)
theorem dX2_spread_90 : decode cX2_spread 90 = .ok (.istore_n 3, 1) := dk_62 (dk_at dksX2_spread_3 20 rfl rfl)
theorem dX2_spread_91 : decode cX2_spread 91 = .ok (.iinc 4 1, 3) := dk_132 4 1 (dk_at dksX2_spread_3 21 rfl rfl)
theorem dX2_spread_94 : decode cX2_spread 94 = .ok (.goto (-64), 3) := dk_167 255 192 (dk_at dksX2_spread_4 0 rfl rfl)
theorem dX2_spread_97 : decode cX2_spread 97 = .ok (.iload_n 3, 1) := dk_29 (dk_at dksX2_spread_4 3 rfl rfl)
theorem dX2_spread_98 : decode cX2_spread 98 = .ok (.iload_n 2, 1) := dk_28 (dk_at dksX2_spread_4 4 rfl rfl)
theorem dX2_spread_99 : decode cX2_spread 99 = .ok (.isub, 1) := dk_100 (dk_at dksX2_spread_4 5 rfl rfl)
theorem dX2_spread_100 : decode cX2_spread 100 = .ok (.ireturn, 1) := dk_172 (dk_at dksX2_spread_4 6 rfl rfl)
abbrev cX2_activeCount : ByteArray := prog_15_method_83_code
def yX2_activeCount : MethodName := ⟨RX2, "activeCount", "()I"⟩
def dkwX2_activeCount_1 : List UInt8 := [153, 0, 7, 4, 167, 0, 4, 3, 96, 60, 132, 2, 1, 167, 255, 223, 27, 172]
abbrev dktX2_activeCount_1 : List UInt8 := dkwX2_activeCount_1 ++ []
def dkwX2_activeCount_0 : List UInt8 := [3, 60, 3, 61, 28, 42, 180, 0, 17, 7, 46, 162, 0, 29, 27, 42, 42, 180, 0, 23, 28, 182, 1, 48]
abbrev dktX2_activeCount_0 : List UInt8 := dkwX2_activeCount_0 ++ dktX2_activeCount_1
theorem dksX2_activeCount_0 : cX2_activeCount.data.toList.drop 0 = dktX2_activeCount_0 := by decide +kernel
theorem dksX2_activeCount_1 : cX2_activeCount.data.toList.drop 24 = dktX2_activeCount_1 := dk_seg dksX2_activeCount_0 24 rfl rfl
theorem dX2_activeCount_0 : decode cX2_activeCount 0 = .ok (.iconst 0, 1) := dk_3 (dk_at dksX2_activeCount_0 0 rfl rfl)
theorem dX2_activeCount_1 : decode cX2_activeCount 1 = .ok (.istore_n 1, 1) := dk_60 (dk_at dksX2_activeCount_0 1 rfl rfl)
theorem dX2_activeCount_2 : decode cX2_activeCount 2 = .ok (.iconst 0, 1) := dk_3 (dk_at dksX2_activeCount_0 2 rfl rfl)
theorem dX2_activeCount_3 : decode cX2_activeCount 3 = .ok (.istore_n 2, 1) := dk_61 (dk_at dksX2_activeCount_0 3 rfl rfl)
theorem dX2_activeCount_4 : decode cX2_activeCount 4 = .ok (.iload_n 2, 1) := dk_28 (dk_at dksX2_activeCount_0 4 rfl rfl)
theorem dX2_activeCount_5 : decode cX2_activeCount 5 = .ok (.aload_n 0, 1) := dk_42 (dk_at dksX2_activeCount_0 5 rfl rfl)
theorem dX2_activeCount_6 : decode cX2_activeCount 6 = .ok (.getfield 17, 3) := dk_180 0 17 (dk_at dksX2_activeCount_0 6 rfl rfl)
theorem dX2_activeCount_9 : decode cX2_activeCount 9 = .ok (.iconst 4, 1) := dk_7 (dk_at dksX2_activeCount_0 9 rfl rfl)
theorem dX2_activeCount_10 : decode cX2_activeCount 10 = .ok (.iaload, 1) := dk_46 (dk_at dksX2_activeCount_0 10 rfl rfl)
theorem dX2_activeCount_11 : decode cX2_activeCount 11 = .ok (.if_icmp .ge 29, 3) := dk_162 0 29 (dk_at dksX2_activeCount_0 11 rfl rfl)
theorem dX2_activeCount_14 : decode cX2_activeCount 14 = .ok (.iload_n 1, 1) := dk_27 (dk_at dksX2_activeCount_0 14 rfl rfl)
theorem dX2_activeCount_15 : decode cX2_activeCount 15 = .ok (.aload_n 0, 1) := dk_42 (dk_at dksX2_activeCount_0 15 rfl rfl)
theorem dX2_activeCount_16 : decode cX2_activeCount 16 = .ok (.aload_n 0, 1) := dk_42 (dk_at dksX2_activeCount_0 16 rfl rfl)
theorem dX2_activeCount_17 : decode cX2_activeCount 17 = .ok (.getfield 23, 3) := dk_180 0 23 (dk_at dksX2_activeCount_0 17 rfl rfl)
theorem dX2_activeCount_20 : decode cX2_activeCount 20 = .ok (.iload_n 2, 1) := dk_28 (dk_at dksX2_activeCount_0 20 rfl rfl)
theorem dX2_activeCount_21 : decode cX2_activeCount 21 = .ok (.invokevirtual 304, 3) := dk_182 1 48 (dk_at dksX2_activeCount_0 21 rfl rfl)
theorem dX2_activeCount_24 : decode cX2_activeCount 24 = .ok (.ifCond .eq 7, 3) := dk_153 0 7 (dk_at dksX2_activeCount_1 0 rfl rfl)
theorem dX2_activeCount_27 : decode cX2_activeCount 27 = .ok (.iconst 1, 1) := dk_4 (dk_at dksX2_activeCount_1 3 rfl rfl)
theorem dX2_activeCount_28 : decode cX2_activeCount 28 = .ok (.goto 4, 3) := dk_167 0 4 (dk_at dksX2_activeCount_1 4 rfl rfl)
theorem dX2_activeCount_31 : decode cX2_activeCount 31 = .ok (.iconst 0, 1) := dk_3 (dk_at dksX2_activeCount_1 7 rfl rfl)
theorem dX2_activeCount_32 : decode cX2_activeCount 32 = .ok (.iadd, 1) := dk_96 (dk_at dksX2_activeCount_1 8 rfl rfl)
theorem dX2_activeCount_33 : decode cX2_activeCount 33 = .ok (.istore_n 1, 1) := dk_60 (dk_at dksX2_activeCount_1 9 rfl rfl)
theorem dX2_activeCount_34 : decode cX2_activeCount 34 = .ok (.iinc 2 1, 3) := dk_132 2 1 (dk_at dksX2_activeCount_1 10 rfl rfl)
theorem dX2_activeCount_37 : decode cX2_activeCount 37 = .ok (.goto (-33), 3) := dk_167 255 223 (dk_at dksX2_activeCount_1 13 rfl rfl)
theorem dX2_activeCount_40 : decode cX2_activeCount 40 = .ok (.iload_n 1, 1) := dk_27 (dk_at dksX2_activeCount_1 16 rfl rfl)
theorem dX2_activeCount_41 : decode cX2_activeCount 41 = .ok (.ireturn, 1) := dk_172 (dk_at dksX2_activeCount_1 17 rfl rfl)
abbrev cX2_window : ByteArray := prog_15_method_85_code
def yX2_window : MethodName := ⟨RX2, "window", "(I)I"⟩
def dkwX2_window_1 : List UInt8 := [182, 1, 56, 172]
abbrev dktX2_window_1 : List UInt8 := dkwX2_window_1 ++ []
def dkwX2_window_0 : List UInt8 := [42, 42, 27, 182, 1, 88, 182, 1, 84, 154, 0, 5, 3, 172, 42, 27, 182, 1, 64, 42, 42, 180, 0, 23]
abbrev dktX2_window_0 : List UInt8 := dkwX2_window_0 ++ dktX2_window_1
theorem dksX2_window_0 : cX2_window.data.toList.drop 0 = dktX2_window_0 := by decide +kernel
theorem dksX2_window_1 : cX2_window.data.toList.drop 24 = dktX2_window_1 := dk_seg dksX2_window_0 24 rfl rfl
theorem dX2_window_0 : decode cX2_window 0 = .ok (.aload_n 0, 1) := dk_42 (dk_at dksX2_window_0 0 rfl rfl)
theorem dX2_window_1 : decode cX2_window 1 = .ok (.aload_n 0, 1) := dk_42 (dk_at dksX2_window_0 1 rfl rfl)
theorem dX2_window_2 : decode cX2_window 2 = .ok (.iload_n 1, 1) := dk_27 (dk_at dksX2_window_0 2 rfl rfl)
theorem dX2_window_3 : decode cX2_window 3 = .ok (.invokevirtual 344, 3) := dk_182 1 88 (dk_at dksX2_window_0 3 rfl rfl)
theorem dX2_window_6 : decode cX2_window 6 = .ok (.invokevirtual 340, 3) := dk_182 1 84 (dk_at dksX2_window_0 6 rfl rfl)
theorem dX2_window_9 : decode cX2_window 9 = .ok (.ifCond .ne 5, 3) := dk_154 0 5 (dk_at dksX2_window_0 9 rfl rfl)
theorem dX2_window_12 : decode cX2_window 12 = .ok (.iconst 0, 1) := dk_3 (dk_at dksX2_window_0 12 rfl rfl)
theorem dX2_window_13 : decode cX2_window 13 = .ok (.ireturn, 1) := dk_172 (dk_at dksX2_window_0 13 rfl rfl)
theorem dX2_window_14 : decode cX2_window 14 = .ok (.aload_n 0, 1) := dk_42 (dk_at dksX2_window_0 14 rfl rfl)
theorem dX2_window_15 : decode cX2_window 15 = .ok (.iload_n 1, 1) := dk_27 (dk_at dksX2_window_0 15 rfl rfl)
theorem dX2_window_16 : decode cX2_window 16 = .ok (.invokevirtual 320, 3) := dk_182 1 64 (dk_at dksX2_window_0 16 rfl rfl)
theorem dX2_window_19 : decode cX2_window 19 = .ok (.aload_n 0, 1) := dk_42 (dk_at dksX2_window_0 19 rfl rfl)
theorem dX2_window_20 : decode cX2_window 20 = .ok (.aload_n 0, 1) := dk_42 (dk_at dksX2_window_0 20 rfl rfl)
theorem dX2_window_21 : decode cX2_window 21 = .ok (.getfield 23, 3) := dk_180 0 23 (dk_at dksX2_window_0 21 rfl rfl)
theorem dX2_window_24 : decode cX2_window 24 = .ok (.invokevirtual 312, 3) := dk_182 1 56 (dk_at dksX2_window_1 0 rfl rfl)
theorem dX2_window_27 : decode cX2_window 27 = .ok (.ireturn, 1) := dk_172 (dk_at dksX2_window_1 3 rfl rfl)
abbrev cX2_laysCell : ByteArray := prog_15_method_52_code
def yX2_laysCell : MethodName := ⟨RX2, "laysCell", "(I)V"⟩
def dkwX2_laysCell_1 : List UInt8 := [104, 28, 96, 46, 79, 132, 2, 1, 167, 255, 226, 177]
abbrev dktX2_laysCell_1 : List UInt8 := dkwX2_laysCell_1 ++ []
def dkwX2_laysCell_0 : List UInt8 := [3, 61, 28, 42, 180, 0, 17, 7, 46, 162, 0, 26, 42, 180, 0, 51, 28, 42, 180, 0, 38, 16, 12, 27]
abbrev dktX2_laysCell_0 : List UInt8 := dkwX2_laysCell_0 ++ dktX2_laysCell_1
theorem dksX2_laysCell_0 : cX2_laysCell.data.toList.drop 0 = dktX2_laysCell_0 := by decide +kernel
theorem dksX2_laysCell_1 : cX2_laysCell.data.toList.drop 24 = dktX2_laysCell_1 := dk_seg dksX2_laysCell_0 24 rfl rfl
theorem dX2_laysCell_0 : decode cX2_laysCell 0 = .ok (.iconst 0, 1) := dk_3 (dk_at dksX2_laysCell_0 0 rfl rfl)
theorem dX2_laysCell_1 : decode cX2_laysCell 1 = .ok (.istore_n 2, 1) := dk_61 (dk_at dksX2_laysCell_0 1 rfl rfl)
theorem dX2_laysCell_2 : decode cX2_laysCell 2 = .ok (.iload_n 2, 1) := dk_28 (dk_at dksX2_laysCell_0 2 rfl rfl)
theorem dX2_laysCell_3 : decode cX2_laysCell 3 = .ok (.aload_n 0, 1) := dk_42 (dk_at dksX2_laysCell_0 3 rfl rfl)
theorem dX2_laysCell_4 : decode cX2_laysCell 4 = .ok (.getfield 17, 3) := dk_180 0 17 (dk_at dksX2_laysCell_0 4 rfl rfl)
theorem dX2_laysCell_7 : decode cX2_laysCell 7 = .ok (.iconst 4, 1) := dk_7 (dk_at dksX2_laysCell_0 7 rfl rfl)
theorem dX2_laysCell_8 : decode cX2_laysCell 8 = .ok (.iaload, 1) := dk_46 (dk_at dksX2_laysCell_0 8 rfl rfl)
theorem dX2_laysCell_9 : decode cX2_laysCell 9 = .ok (.if_icmp .ge 26, 3) := dk_162 0 26 (dk_at dksX2_laysCell_0 9 rfl rfl)
theorem dX2_laysCell_12 : decode cX2_laysCell 12 = .ok (.aload_n 0, 1) := dk_42 (dk_at dksX2_laysCell_0 12 rfl rfl)
theorem dX2_laysCell_13 : decode cX2_laysCell 13 = .ok (.getfield 51, 3) := dk_180 0 51 (dk_at dksX2_laysCell_0 13 rfl rfl)
theorem dX2_laysCell_16 : decode cX2_laysCell 16 = .ok (.iload_n 2, 1) := dk_28 (dk_at dksX2_laysCell_0 16 rfl rfl)
theorem dX2_laysCell_17 : decode cX2_laysCell 17 = .ok (.aload_n 0, 1) := dk_42 (dk_at dksX2_laysCell_0 17 rfl rfl)
theorem dX2_laysCell_18 : decode cX2_laysCell 18 = .ok (.getfield 38, 3) := dk_180 0 38 (dk_at dksX2_laysCell_0 18 rfl rfl)
theorem dX2_laysCell_21 : decode cX2_laysCell 21 = .ok (.bipush 12, 2) := dk_16 12 (dk_at dksX2_laysCell_0 21 rfl rfl)
theorem dX2_laysCell_23 : decode cX2_laysCell 23 = .ok (.iload_n 1, 1) := dk_27 (dk_at dksX2_laysCell_0 23 rfl rfl)
theorem dX2_laysCell_24 : decode cX2_laysCell 24 = .ok (.imul, 1) := dk_104 (dk_at dksX2_laysCell_1 0 rfl rfl)
theorem dX2_laysCell_25 : decode cX2_laysCell 25 = .ok (.iload_n 2, 1) := dk_28 (dk_at dksX2_laysCell_1 1 rfl rfl)
theorem dX2_laysCell_26 : decode cX2_laysCell 26 = .ok (.iadd, 1) := dk_96 (dk_at dksX2_laysCell_1 2 rfl rfl)
theorem dX2_laysCell_27 : decode cX2_laysCell 27 = .ok (.iaload, 1) := dk_46 (dk_at dksX2_laysCell_1 3 rfl rfl)
theorem dX2_laysCell_28 : decode cX2_laysCell 28 = .ok (.iastore, 1) := dk_79 (dk_at dksX2_laysCell_1 4 rfl rfl)
theorem dX2_laysCell_29 : decode cX2_laysCell 29 = .ok (.iinc 2 1, 3) := dk_132 2 1 (dk_at dksX2_laysCell_1 5 rfl rfl)
theorem dX2_laysCell_32 : decode cX2_laysCell 32 = .ok (.goto (-30), 3) := dk_167 255 226 (dk_at dksX2_laysCell_1 8 rfl rfl)
theorem dX2_laysCell_35 : decode cX2_laysCell 35 = .ok (.return_, 1) := dk_177 (dk_at dksX2_laysCell_1 11 rfl rfl)
abbrev cX2_windowOf : ByteArray := prog_15_method_55_code
def yX2_windowOf : MethodName := ⟨RX2, "windowOf", "([I)I"⟩
def dkwX2_windowOf_2 : List UInt8 := [180, 0, 17, 5, 46, 28, 100, 184, 1, 15, 172]
abbrev dktX2_windowOf_2 : List UInt8 := dkwX2_windowOf_2 ++ []
def dkwX2_windowOf_1 : List UInt8 := [42, 180, 0, 51, 29, 46, 184, 1, 15, 167, 0, 4, 28, 61, 132, 3, 1, 167, 255, 219, 3, 42]
abbrev dktX2_windowOf_1 : List UInt8 := dkwX2_windowOf_1 ++ dktX2_windowOf_2
def dkwX2_windowOf_0 : List UInt8 := [3, 61, 3, 62, 29, 42, 180, 0, 17, 7, 46, 162, 0, 33, 42, 43, 29, 182, 1, 48, 153, 0, 16, 28]
abbrev dktX2_windowOf_0 : List UInt8 := dkwX2_windowOf_0 ++ dktX2_windowOf_1
theorem dksX2_windowOf_0 : cX2_windowOf.data.toList.drop 0 = dktX2_windowOf_0 := by decide +kernel
theorem dksX2_windowOf_1 : cX2_windowOf.data.toList.drop 24 = dktX2_windowOf_1 := dk_seg dksX2_windowOf_0 24 rfl rfl
theorem dksX2_windowOf_2 : cX2_windowOf.data.toList.drop 46 = dktX2_windowOf_2 := dk_seg dksX2_windowOf_1 22 rfl rfl
theorem dX2_windowOf_0 : decode cX2_windowOf 0 = .ok (.iconst 0, 1) := dk_3 (dk_at dksX2_windowOf_0 0 rfl rfl)
theorem dX2_windowOf_1 : decode cX2_windowOf 1 = .ok (.istore_n 2, 1) := dk_61 (dk_at dksX2_windowOf_0 1 rfl rfl)
theorem dX2_windowOf_2 : decode cX2_windowOf 2 = .ok (.iconst 0, 1) := dk_3 (dk_at dksX2_windowOf_0 2 rfl rfl)
theorem dX2_windowOf_3 : decode cX2_windowOf 3 = .ok (.istore_n 3, 1) := dk_62 (dk_at dksX2_windowOf_0 3 rfl rfl)
theorem dX2_windowOf_4 : decode cX2_windowOf 4 = .ok (.iload_n 3, 1) := dk_29 (dk_at dksX2_windowOf_0 4 rfl rfl)
theorem dX2_windowOf_5 : decode cX2_windowOf 5 = .ok (.aload_n 0, 1) := dk_42 (dk_at dksX2_windowOf_0 5 rfl rfl)
theorem dX2_windowOf_6 : decode cX2_windowOf 6 = .ok (.getfield 17, 3) := dk_180 0 17 (dk_at dksX2_windowOf_0 6 rfl rfl)
theorem dX2_windowOf_9 : decode cX2_windowOf 9 = .ok (.iconst 4, 1) := dk_7 (dk_at dksX2_windowOf_0 9 rfl rfl)
theorem dX2_windowOf_10 : decode cX2_windowOf 10 = .ok (.iaload, 1) := dk_46 (dk_at dksX2_windowOf_0 10 rfl rfl)
theorem dX2_windowOf_11 : decode cX2_windowOf 11 = .ok (.if_icmp .ge 33, 3) := dk_162 0 33 (dk_at dksX2_windowOf_0 11 rfl rfl)
theorem dX2_windowOf_14 : decode cX2_windowOf 14 = .ok (.aload_n 0, 1) := dk_42 (dk_at dksX2_windowOf_0 14 rfl rfl)
theorem dX2_windowOf_15 : decode cX2_windowOf 15 = .ok (.aload_n 1, 1) := dk_43 (dk_at dksX2_windowOf_0 15 rfl rfl)
theorem dX2_windowOf_16 : decode cX2_windowOf 16 = .ok (.iload_n 3, 1) := dk_29 (dk_at dksX2_windowOf_0 16 rfl rfl)
theorem dX2_windowOf_17 : decode cX2_windowOf 17 = .ok (.invokevirtual 304, 3) := dk_182 1 48 (dk_at dksX2_windowOf_0 17 rfl rfl)
theorem dX2_windowOf_20 : decode cX2_windowOf 20 = .ok (.ifCond .eq 16, 3) := dk_153 0 16 (dk_at dksX2_windowOf_0 20 rfl rfl)
theorem dX2_windowOf_23 : decode cX2_windowOf 23 = .ok (.iload_n 2, 1) := dk_28 (dk_at dksX2_windowOf_0 23 rfl rfl)
theorem dX2_windowOf_24 : decode cX2_windowOf 24 = .ok (.aload_n 0, 1) := dk_42 (dk_at dksX2_windowOf_1 0 rfl rfl)
theorem dX2_windowOf_25 : decode cX2_windowOf 25 = .ok (.getfield 51, 3) := dk_180 0 51 (dk_at dksX2_windowOf_1 1 rfl rfl)
theorem dX2_windowOf_28 : decode cX2_windowOf 28 = .ok (.iload_n 3, 1) := dk_29 (dk_at dksX2_windowOf_1 4 rfl rfl)
theorem dX2_windowOf_29 : decode cX2_windowOf 29 = .ok (.iaload, 1) := dk_46 (dk_at dksX2_windowOf_1 5 rfl rfl)
theorem dX2_windowOf_30 : decode cX2_windowOf 30 = .ok (.invokestatic 271, 3) := dk_184 1 15 (dk_at dksX2_windowOf_1 6 rfl rfl)
theorem dX2_windowOf_33 : decode cX2_windowOf 33 = .ok (.goto 4, 3) := dk_167 0 4 (dk_at dksX2_windowOf_1 9 rfl rfl)
theorem dX2_windowOf_36 : decode cX2_windowOf 36 = .ok (.iload_n 2, 1) := dk_28 (dk_at dksX2_windowOf_1 12 rfl rfl)
theorem dX2_windowOf_37 : decode cX2_windowOf 37 = .ok (.istore_n 2, 1) := dk_61 (dk_at dksX2_windowOf_1 13 rfl rfl)
theorem dX2_windowOf_38 : decode cX2_windowOf 38 = .ok (.iinc 3 1, 3) := dk_132 3 1 (dk_at dksX2_windowOf_1 14 rfl rfl)
theorem dX2_windowOf_41 : decode cX2_windowOf 41 = .ok (.goto (-37), 3) := dk_167 255 219 (dk_at dksX2_windowOf_1 17 rfl rfl)
theorem dX2_windowOf_44 : decode cX2_windowOf 44 = .ok (.iconst 0, 1) := dk_3 (dk_at dksX2_windowOf_1 20 rfl rfl)
theorem dX2_windowOf_45 : decode cX2_windowOf 45 = .ok (.aload_n 0, 1) := dk_42 (dk_at dksX2_windowOf_1 21 rfl rfl)
theorem dX2_windowOf_46 : decode cX2_windowOf 46 = .ok (.getfield 17, 3) := dk_180 0 17 (dk_at dksX2_windowOf_2 0 rfl rfl)
theorem dX2_windowOf_49 : decode cX2_windowOf 49 = .ok (.iconst 2, 1) := dk_5 (dk_at dksX2_windowOf_2 3 rfl rfl)
theorem dX2_windowOf_50 : decode cX2_windowOf 50 = .ok (.iaload, 1) := dk_46 (dk_at dksX2_windowOf_2 4 rfl rfl)
theorem dX2_windowOf_51 : decode cX2_windowOf 51 = .ok (.iload_n 2, 1) := dk_28 (dk_at dksX2_windowOf_2 5 rfl rfl)
theorem dX2_windowOf_52 : decode cX2_windowOf 52 = .ok (.isub, 1) := dk_100 (dk_at dksX2_windowOf_2 6 rfl rfl)
theorem dX2_windowOf_53 : decode cX2_windowOf 53 = .ok (.invokestatic 271, 3) := dk_184 1 15 (dk_at dksX2_windowOf_2 7 rfl rfl)
theorem dX2_windowOf_56 : decode cX2_windowOf 56 = .ok (.ireturn, 1) := dk_172 (dk_at dksX2_windowOf_2 10 rfl rfl)
abbrev cX2_sample : ByteArray := prog_15_method_86_code
def yX2_sample : MethodName := ⟨RX2, "sample", "(II)I"⟩
def dkwX2_sample_1 : List UInt8 := [180, 0, 23, 16, 55, 17, 0, 200, 27, 104, 96, 28, 96, 46, 167, 0, 8, 42, 6, 182, 0, 227, 172]
abbrev dktX2_sample_1 : List UInt8 := dkwX2_sample_1 ++ []
def dkwX2_sample_0 : List UInt8 := [42, 42, 27, 182, 1, 81, 182, 1, 84, 154, 0, 5, 3, 172, 42, 28, 182, 1, 94, 153, 0, 21, 42]
abbrev dktX2_sample_0 : List UInt8 := dkwX2_sample_0 ++ dktX2_sample_1
theorem dksX2_sample_0 : cX2_sample.data.toList.drop 0 = dktX2_sample_0 := by decide +kernel
theorem dksX2_sample_1 : cX2_sample.data.toList.drop 23 = dktX2_sample_1 := dk_seg dksX2_sample_0 23 rfl rfl
theorem dX2_sample_0 : decode cX2_sample 0 = .ok (.aload_n 0, 1) := dk_42 (dk_at dksX2_sample_0 0 rfl rfl)
theorem dX2_sample_1 : decode cX2_sample 1 = .ok (.aload_n 0, 1) := dk_42 (dk_at dksX2_sample_0 1 rfl rfl)
theorem dX2_sample_2 : decode cX2_sample 2 = .ok (.iload_n 1, 1) := dk_27 (dk_at dksX2_sample_0 2 rfl rfl)
theorem dX2_sample_3 : decode cX2_sample 3 = .ok (.invokevirtual 337, 3) := dk_182 1 81 (dk_at dksX2_sample_0 3 rfl rfl)
theorem dX2_sample_6 : decode cX2_sample 6 = .ok (.invokevirtual 340, 3) := dk_182 1 84 (dk_at dksX2_sample_0 6 rfl rfl)
theorem dX2_sample_9 : decode cX2_sample 9 = .ok (.ifCond .ne 5, 3) := dk_154 0 5 (dk_at dksX2_sample_0 9 rfl rfl)
theorem dX2_sample_12 : decode cX2_sample 12 = .ok (.iconst 0, 1) := dk_3 (dk_at dksX2_sample_0 12 rfl rfl)
theorem dX2_sample_13 : decode cX2_sample 13 = .ok (.ireturn, 1) := dk_172 (dk_at dksX2_sample_0 13 rfl rfl)
theorem dX2_sample_14 : decode cX2_sample 14 = .ok (.aload_n 0, 1) := dk_42 (dk_at dksX2_sample_0 14 rfl rfl)
theorem dX2_sample_15 : decode cX2_sample 15 = .ok (.iload_n 2, 1) := dk_28 (dk_at dksX2_sample_0 15 rfl rfl)
theorem dX2_sample_16 : decode cX2_sample 16 = .ok (.invokevirtual 350, 3) := dk_182 1 94 (dk_at dksX2_sample_0 16 rfl rfl)
theorem dX2_sample_19 : decode cX2_sample 19 = .ok (.ifCond .eq 21, 3) := dk_153 0 21 (dk_at dksX2_sample_0 19 rfl rfl)
theorem dX2_sample_22 : decode cX2_sample 22 = .ok (.aload_n 0, 1) := dk_42 (dk_at dksX2_sample_0 22 rfl rfl)
theorem dX2_sample_23 : decode cX2_sample 23 = .ok (.getfield 23, 3) := dk_180 0 23 (dk_at dksX2_sample_1 0 rfl rfl)
theorem dX2_sample_26 : decode cX2_sample 26 = .ok (.bipush 55, 2) := dk_16 55 (dk_at dksX2_sample_1 3 rfl rfl)
theorem dX2_sample_28 : decode cX2_sample 28 = .ok (.sipush 200, 3) := dk_17 0 200 (dk_at dksX2_sample_1 5 rfl rfl)
theorem dX2_sample_31 : decode cX2_sample 31 = .ok (.iload_n 1, 1) := dk_27 (dk_at dksX2_sample_1 8 rfl rfl)
theorem dX2_sample_32 : decode cX2_sample 32 = .ok (.imul, 1) := dk_104 (dk_at dksX2_sample_1 9 rfl rfl)
theorem dX2_sample_33 : decode cX2_sample 33 = .ok (.iadd, 1) := dk_96 (dk_at dksX2_sample_1 10 rfl rfl)
theorem dX2_sample_34 : decode cX2_sample 34 = .ok (.iload_n 2, 1) := dk_28 (dk_at dksX2_sample_1 11 rfl rfl)
theorem dX2_sample_35 : decode cX2_sample 35 = .ok (.iadd, 1) := dk_96 (dk_at dksX2_sample_1 12 rfl rfl)
theorem dX2_sample_36 : decode cX2_sample 36 = .ok (.iaload, 1) := dk_46 (dk_at dksX2_sample_1 13 rfl rfl)
theorem dX2_sample_37 : decode cX2_sample 37 = .ok (.goto 8, 3) := dk_167 0 8 (dk_at dksX2_sample_1 14 rfl rfl)
theorem dX2_sample_40 : decode cX2_sample 40 = .ok (.aload_n 0, 1) := dk_42 (dk_at dksX2_sample_1 17 rfl rfl)
theorem dX2_sample_41 : decode cX2_sample 41 = .ok (.iconst 3, 1) := dk_6 (dk_at dksX2_sample_1 18 rfl rfl)
theorem dX2_sample_42 : decode cX2_sample 42 = .ok (.invokevirtual 227, 3) := dk_182 0 227 (dk_at dksX2_sample_1 19 rfl rfl)
theorem dX2_sample_45 : decode cX2_sample 45 = .ok (.ireturn, 1) := dk_172 (dk_at dksX2_sample_1 22 rfl rfl)
abbrev cX2_beam : ByteArray := prog_15_method_87_code
def yX2_beam : MethodName := ⟨RX2, "beam", "(II)I"⟩
def dkwX2_beam_2 : List UInt8 := [167, 0, 8, 42, 6, 182, 0, 227, 172]
abbrev dktX2_beam_2 : List UInt8 := dkwX2_beam_2 ++ []
def dkwX2_beam_1 : List UInt8 := [180, 0, 23, 182, 1, 56, 4, 100, 184, 0, 96, 153, 0, 15, 42, 42, 180, 0, 23, 28, 182, 1, 52]
abbrev dktX2_beam_1 : List UInt8 := dkwX2_beam_1 ++ dktX2_beam_2
def dkwX2_beam_0 : List UInt8 := [42, 42, 27, 182, 1, 88, 182, 1, 84, 154, 0, 5, 3, 172, 42, 27, 182, 1, 64, 28, 3, 42, 42]
abbrev dktX2_beam_0 : List UInt8 := dkwX2_beam_0 ++ dktX2_beam_1
theorem dksX2_beam_0 : cX2_beam.data.toList.drop 0 = dktX2_beam_0 := by decide +kernel
theorem dksX2_beam_1 : cX2_beam.data.toList.drop 23 = dktX2_beam_1 := dk_seg dksX2_beam_0 23 rfl rfl
theorem dksX2_beam_2 : cX2_beam.data.toList.drop 46 = dktX2_beam_2 := dk_seg dksX2_beam_1 23 rfl rfl
theorem dX2_beam_0 : decode cX2_beam 0 = .ok (.aload_n 0, 1) := dk_42 (dk_at dksX2_beam_0 0 rfl rfl)
theorem dX2_beam_1 : decode cX2_beam 1 = .ok (.aload_n 0, 1) := dk_42 (dk_at dksX2_beam_0 1 rfl rfl)
theorem dX2_beam_2 : decode cX2_beam 2 = .ok (.iload_n 1, 1) := dk_27 (dk_at dksX2_beam_0 2 rfl rfl)
theorem dX2_beam_3 : decode cX2_beam 3 = .ok (.invokevirtual 344, 3) := dk_182 1 88 (dk_at dksX2_beam_0 3 rfl rfl)
theorem dX2_beam_6 : decode cX2_beam 6 = .ok (.invokevirtual 340, 3) := dk_182 1 84 (dk_at dksX2_beam_0 6 rfl rfl)
theorem dX2_beam_9 : decode cX2_beam 9 = .ok (.ifCond .ne 5, 3) := dk_154 0 5 (dk_at dksX2_beam_0 9 rfl rfl)
theorem dX2_beam_12 : decode cX2_beam 12 = .ok (.iconst 0, 1) := dk_3 (dk_at dksX2_beam_0 12 rfl rfl)
theorem dX2_beam_13 : decode cX2_beam 13 = .ok (.ireturn, 1) := dk_172 (dk_at dksX2_beam_0 13 rfl rfl)
theorem dX2_beam_14 : decode cX2_beam 14 = .ok (.aload_n 0, 1) := dk_42 (dk_at dksX2_beam_0 14 rfl rfl)
theorem dX2_beam_15 : decode cX2_beam 15 = .ok (.iload_n 1, 1) := dk_27 (dk_at dksX2_beam_0 15 rfl rfl)
theorem dX2_beam_16 : decode cX2_beam 16 = .ok (.invokevirtual 320, 3) := dk_182 1 64 (dk_at dksX2_beam_0 16 rfl rfl)
theorem dX2_beam_19 : decode cX2_beam 19 = .ok (.iload_n 2, 1) := dk_28 (dk_at dksX2_beam_0 19 rfl rfl)
theorem dX2_beam_20 : decode cX2_beam 20 = .ok (.iconst 0, 1) := dk_3 (dk_at dksX2_beam_0 20 rfl rfl)
theorem dX2_beam_21 : decode cX2_beam 21 = .ok (.aload_n 0, 1) := dk_42 (dk_at dksX2_beam_0 21 rfl rfl)
theorem dX2_beam_22 : decode cX2_beam 22 = .ok (.aload_n 0, 1) := dk_42 (dk_at dksX2_beam_0 22 rfl rfl)
theorem dX2_beam_23 : decode cX2_beam 23 = .ok (.getfield 23, 3) := dk_180 0 23 (dk_at dksX2_beam_1 0 rfl rfl)
theorem dX2_beam_26 : decode cX2_beam 26 = .ok (.invokevirtual 312, 3) := dk_182 1 56 (dk_at dksX2_beam_1 3 rfl rfl)
theorem dX2_beam_29 : decode cX2_beam 29 = .ok (.iconst 1, 1) := dk_4 (dk_at dksX2_beam_1 6 rfl rfl)
theorem dX2_beam_30 : decode cX2_beam 30 = .ok (.isub, 1) := dk_100 (dk_at dksX2_beam_1 7 rfl rfl)
theorem dX2_beam_31 : decode cX2_beam 31 = .ok (.invokestatic 96, 3) := dk_184 0 96 (dk_at dksX2_beam_1 8 rfl rfl)
theorem dX2_beam_34 : decode cX2_beam 34 = .ok (.ifCond .eq 15, 3) := dk_153 0 15 (dk_at dksX2_beam_1 11 rfl rfl)
theorem dX2_beam_37 : decode cX2_beam 37 = .ok (.aload_n 0, 1) := dk_42 (dk_at dksX2_beam_1 14 rfl rfl)
theorem dX2_beam_38 : decode cX2_beam 38 = .ok (.aload_n 0, 1) := dk_42 (dk_at dksX2_beam_1 15 rfl rfl)
theorem dX2_beam_39 : decode cX2_beam 39 = .ok (.getfield 23, 3) := dk_180 0 23 (dk_at dksX2_beam_1 16 rfl rfl)
theorem dX2_beam_42 : decode cX2_beam 42 = .ok (.iload_n 2, 1) := dk_28 (dk_at dksX2_beam_1 19 rfl rfl)
theorem dX2_beam_43 : decode cX2_beam 43 = .ok (.invokevirtual 308, 3) := dk_182 1 52 (dk_at dksX2_beam_1 20 rfl rfl)
theorem dX2_beam_46 : decode cX2_beam 46 = .ok (.goto 8, 3) := dk_167 0 8 (dk_at dksX2_beam_2 0 rfl rfl)
theorem dX2_beam_49 : decode cX2_beam 49 = .ok (.aload_n 0, 1) := dk_42 (dk_at dksX2_beam_2 3 rfl rfl)
theorem dX2_beam_50 : decode cX2_beam 50 = .ok (.iconst 3, 1) := dk_6 (dk_at dksX2_beam_2 4 rfl rfl)
theorem dX2_beam_51 : decode cX2_beam 51 = .ok (.invokevirtual 227, 3) := dk_182 0 227 (dk_at dksX2_beam_2 5 rfl rfl)
theorem dX2_beam_54 : decode cX2_beam 54 = .ok (.ireturn, 1) := dk_172 (dk_at dksX2_beam_2 8 rfl rfl)
abbrev cX2_beamAt : ByteArray := prog_15_method_56_code
def yX2_beamAt : MethodName := ⟨RX2, "beamAt", "([II)I"⟩
def dkwX2_beamAt_3 : List UInt8 := [46, 104, 167, 0, 4, 3, 96, 62, 132, 4, 1, 167, 255, 178, 29, 172]
abbrev dktX2_beamAt_3 : List UInt8 := dkwX2_beamAt_3 ++ []
def dkwX2_beamAt_2 : List UInt8 := [21, 4, 96, 46, 43, 16, 55, 17, 0, 200, 21, 4, 104, 96, 28, 96, 42, 180, 0, 51, 21, 4, 46, 96]
abbrev dktX2_beamAt_2 : List UInt8 := dkwX2_beamAt_2 ++ dktX2_beamAt_3
def dkwX2_beamAt_1 : List UInt8 := [153, 0, 53, 28, 42, 180, 0, 51, 21, 4, 46, 96, 42, 180, 0, 17, 5, 46, 162, 0, 35, 43, 16, 13]
abbrev dktX2_beamAt_1 : List UInt8 := dkwX2_beamAt_1 ++ dktX2_beamAt_2
def dkwX2_beamAt_0 : List UInt8 := [3, 62, 3, 54, 4, 21, 4, 42, 180, 0, 17, 7, 46, 162, 0, 73, 29, 42, 43, 21, 4, 182, 1, 48]
abbrev dktX2_beamAt_0 : List UInt8 := dkwX2_beamAt_0 ++ dktX2_beamAt_1
theorem dksX2_beamAt_0 : cX2_beamAt.data.toList.drop 0 = dktX2_beamAt_0 := by decide +kernel
theorem dksX2_beamAt_1 : cX2_beamAt.data.toList.drop 24 = dktX2_beamAt_1 := dk_seg dksX2_beamAt_0 24 rfl rfl
theorem dksX2_beamAt_2 : cX2_beamAt.data.toList.drop 48 = dktX2_beamAt_2 := dk_seg dksX2_beamAt_1 24 rfl rfl
theorem dksX2_beamAt_3 : cX2_beamAt.data.toList.drop 72 = dktX2_beamAt_3 := dk_seg dksX2_beamAt_2 24 rfl rfl
theorem dX2_beamAt_0 : decode cX2_beamAt 0 = .ok (.iconst 0, 1) := dk_3 (dk_at dksX2_beamAt_0 0 rfl rfl)
theorem dX2_beamAt_1 : decode cX2_beamAt 1 = .ok (.istore_n 3, 1) := dk_62 (dk_at dksX2_beamAt_0 1 rfl rfl)
theorem dX2_beamAt_2 : decode cX2_beamAt 2 = .ok (.iconst 0, 1) := dk_3 (dk_at dksX2_beamAt_0 2 rfl rfl)
theorem dX2_beamAt_3 : decode cX2_beamAt 3 = .ok (.istore 4, 2) := dk_54 4 (dk_at dksX2_beamAt_0 3 rfl rfl)
theorem dX2_beamAt_5 : decode cX2_beamAt 5 = .ok (.iload 4, 2) := dk_21 4 (dk_at dksX2_beamAt_0 5 rfl rfl)
theorem dX2_beamAt_7 : decode cX2_beamAt 7 = .ok (.aload_n 0, 1) := dk_42 (dk_at dksX2_beamAt_0 7 rfl rfl)
theorem dX2_beamAt_8 : decode cX2_beamAt 8 = .ok (.getfield 17, 3) := dk_180 0 17 (dk_at dksX2_beamAt_0 8 rfl rfl)
theorem dX2_beamAt_11 : decode cX2_beamAt 11 = .ok (.iconst 4, 1) := dk_7 (dk_at dksX2_beamAt_0 11 rfl rfl)
theorem dX2_beamAt_12 : decode cX2_beamAt 12 = .ok (.iaload, 1) := dk_46 (dk_at dksX2_beamAt_0 12 rfl rfl)
theorem dX2_beamAt_13 : decode cX2_beamAt 13 = .ok (.if_icmp .ge 73, 3) := dk_162 0 73 (dk_at dksX2_beamAt_0 13 rfl rfl)
theorem dX2_beamAt_16 : decode cX2_beamAt 16 = .ok (.iload_n 3, 1) := dk_29 (dk_at dksX2_beamAt_0 16 rfl rfl)
theorem dX2_beamAt_17 : decode cX2_beamAt 17 = .ok (.aload_n 0, 1) := dk_42 (dk_at dksX2_beamAt_0 17 rfl rfl)
theorem dX2_beamAt_18 : decode cX2_beamAt 18 = .ok (.aload_n 1, 1) := dk_43 (dk_at dksX2_beamAt_0 18 rfl rfl)
theorem dX2_beamAt_19 : decode cX2_beamAt 19 = .ok (.iload 4, 2) := dk_21 4 (dk_at dksX2_beamAt_0 19 rfl rfl)
theorem dX2_beamAt_21 : decode cX2_beamAt 21 = .ok (.invokevirtual 304, 3) := dk_182 1 48 (dk_at dksX2_beamAt_0 21 rfl rfl)
theorem dX2_beamAt_24 : decode cX2_beamAt 24 = .ok (.ifCond .eq 53, 3) := dk_153 0 53 (dk_at dksX2_beamAt_1 0 rfl rfl)
theorem dX2_beamAt_27 : decode cX2_beamAt 27 = .ok (.iload_n 2, 1) := dk_28 (dk_at dksX2_beamAt_1 3 rfl rfl)
theorem dX2_beamAt_28 : decode cX2_beamAt 28 = .ok (.aload_n 0, 1) := dk_42 (dk_at dksX2_beamAt_1 4 rfl rfl)
theorem dX2_beamAt_29 : decode cX2_beamAt 29 = .ok (.getfield 51, 3) := dk_180 0 51 (dk_at dksX2_beamAt_1 5 rfl rfl)
theorem dX2_beamAt_32 : decode cX2_beamAt 32 = .ok (.iload 4, 2) := dk_21 4 (dk_at dksX2_beamAt_1 8 rfl rfl)
theorem dX2_beamAt_34 : decode cX2_beamAt 34 = .ok (.iaload, 1) := dk_46 (dk_at dksX2_beamAt_1 10 rfl rfl)
theorem dX2_beamAt_35 : decode cX2_beamAt 35 = .ok (.iadd, 1) := dk_96 (dk_at dksX2_beamAt_1 11 rfl rfl)
theorem dX2_beamAt_36 : decode cX2_beamAt 36 = .ok (.aload_n 0, 1) := dk_42 (dk_at dksX2_beamAt_1 12 rfl rfl)
theorem dX2_beamAt_37 : decode cX2_beamAt 37 = .ok (.getfield 17, 3) := dk_180 0 17 (dk_at dksX2_beamAt_1 13 rfl rfl)
theorem dX2_beamAt_40 : decode cX2_beamAt 40 = .ok (.iconst 2, 1) := dk_5 (dk_at dksX2_beamAt_1 16 rfl rfl)
theorem dX2_beamAt_41 : decode cX2_beamAt 41 = .ok (.iaload, 1) := dk_46 (dk_at dksX2_beamAt_1 17 rfl rfl)
theorem dX2_beamAt_42 : decode cX2_beamAt 42 = .ok (.if_icmp .ge 35, 3) := dk_162 0 35 (dk_at dksX2_beamAt_1 18 rfl rfl)
theorem dX2_beamAt_45 : decode cX2_beamAt 45 = .ok (.aload_n 1, 1) := dk_43 (dk_at dksX2_beamAt_1 21 rfl rfl)
theorem dX2_beamAt_46 : decode cX2_beamAt 46 = .ok (.bipush 13, 2) := dk_16 13 (dk_at dksX2_beamAt_1 22 rfl rfl)
theorem dX2_beamAt_48 : decode cX2_beamAt 48 = .ok (.iload 4, 2) := dk_21 4 (dk_at dksX2_beamAt_2 0 rfl rfl)
theorem dX2_beamAt_50 : decode cX2_beamAt 50 = .ok (.iadd, 1) := dk_96 (dk_at dksX2_beamAt_2 2 rfl rfl)
theorem dX2_beamAt_51 : decode cX2_beamAt 51 = .ok (.iaload, 1) := dk_46 (dk_at dksX2_beamAt_2 3 rfl rfl)
theorem dX2_beamAt_52 : decode cX2_beamAt 52 = .ok (.aload_n 1, 1) := dk_43 (dk_at dksX2_beamAt_2 4 rfl rfl)
theorem dX2_beamAt_53 : decode cX2_beamAt 53 = .ok (.bipush 55, 2) := dk_16 55 (dk_at dksX2_beamAt_2 5 rfl rfl)
theorem dX2_beamAt_55 : decode cX2_beamAt 55 = .ok (.sipush 200, 3) := dk_17 0 200 (dk_at dksX2_beamAt_2 7 rfl rfl)
theorem dX2_beamAt_58 : decode cX2_beamAt 58 = .ok (.iload 4, 2) := dk_21 4 (dk_at dksX2_beamAt_2 10 rfl rfl)
theorem dX2_beamAt_60 : decode cX2_beamAt 60 = .ok (.imul, 1) := dk_104 (dk_at dksX2_beamAt_2 12 rfl rfl)
theorem dX2_beamAt_61 : decode cX2_beamAt 61 = .ok (.iadd, 1) := dk_96 (dk_at dksX2_beamAt_2 13 rfl rfl)
theorem dX2_beamAt_62 : decode cX2_beamAt 62 = .ok (.iload_n 2, 1) := dk_28 (dk_at dksX2_beamAt_2 14 rfl rfl)
theorem dX2_beamAt_63 : decode cX2_beamAt 63 = .ok (.iadd, 1) := dk_96 (dk_at dksX2_beamAt_2 15 rfl rfl)
theorem dX2_beamAt_64 : decode cX2_beamAt 64 = .ok (.aload_n 0, 1) := dk_42 (dk_at dksX2_beamAt_2 16 rfl rfl)
theorem dX2_beamAt_65 : decode cX2_beamAt 65 = .ok (.getfield 51, 3) := dk_180 0 51 (dk_at dksX2_beamAt_2 17 rfl rfl)
theorem dX2_beamAt_68 : decode cX2_beamAt 68 = .ok (.iload 4, 2) := dk_21 4 (dk_at dksX2_beamAt_2 20 rfl rfl)
theorem dX2_beamAt_70 : decode cX2_beamAt 70 = .ok (.iaload, 1) := dk_46 (dk_at dksX2_beamAt_2 22 rfl rfl)
theorem dX2_beamAt_71 : decode cX2_beamAt 71 = .ok (.iadd, 1) := dk_96 (dk_at dksX2_beamAt_2 23 rfl rfl)
theorem dX2_beamAt_72 : decode cX2_beamAt 72 = .ok (.iaload, 1) := dk_46 (dk_at dksX2_beamAt_3 0 rfl rfl)
theorem dX2_beamAt_73 : decode cX2_beamAt 73 = .ok (.imul, 1) := dk_104 (dk_at dksX2_beamAt_3 1 rfl rfl)
theorem dX2_beamAt_74 : decode cX2_beamAt 74 = .ok (.goto 4, 3) := dk_167 0 4 (dk_at dksX2_beamAt_3 2 rfl rfl)
theorem dX2_beamAt_77 : decode cX2_beamAt 77 = .ok (.iconst 0, 1) := dk_3 (dk_at dksX2_beamAt_3 5 rfl rfl)
theorem dX2_beamAt_78 : decode cX2_beamAt 78 = .ok (.iadd, 1) := dk_96 (dk_at dksX2_beamAt_3 6 rfl rfl)
theorem dX2_beamAt_79 : decode cX2_beamAt 79 = .ok (.istore_n 3, 1) := dk_62 (dk_at dksX2_beamAt_3 7 rfl rfl)
theorem dX2_beamAt_80 : decode cX2_beamAt 80 = .ok (.iinc 4 1, 3) := dk_132 4 1 (dk_at dksX2_beamAt_3 8 rfl rfl)
theorem dX2_beamAt_83 : decode cX2_beamAt 83 = .ok (.goto (-78), 3) := dk_167 255 178 (dk_at dksX2_beamAt_3 11 rfl rfl)
theorem dX2_beamAt_86 : decode cX2_beamAt 86 = .ok (.iload_n 3, 1) := dk_29 (dk_at dksX2_beamAt_3 14 rfl rfl)
theorem dX2_beamAt_87 : decode cX2_beamAt 87 = .ok (.ireturn, 1) := dk_172 (dk_at dksX2_beamAt_3 15 rfl rfl)
abbrev cX2_power : ByteArray := prog_15_method_88_code
def yX2_power : MethodName := ⟨RX2, "power", "(I)J"⟩
def dkwX2_power_1 : List UInt8 := [9, 173]
abbrev dktX2_power_1 : List UInt8 := dkwX2_power_1 ++ []
def dkwX2_power_0 : List UInt8 := [42, 42, 27, 182, 1, 88, 182, 1, 84, 153, 0, 15, 42, 42, 180, 0, 23, 27, 182, 1, 71, 167, 0, 4]
abbrev dktX2_power_0 : List UInt8 := dkwX2_power_0 ++ dktX2_power_1
theorem dksX2_power_0 : cX2_power.data.toList.drop 0 = dktX2_power_0 := by decide +kernel
theorem dksX2_power_1 : cX2_power.data.toList.drop 24 = dktX2_power_1 := dk_seg dksX2_power_0 24 rfl rfl
theorem dX2_power_0 : decode cX2_power 0 = .ok (.aload_n 0, 1) := dk_42 (dk_at dksX2_power_0 0 rfl rfl)
theorem dX2_power_1 : decode cX2_power 1 = .ok (.aload_n 0, 1) := dk_42 (dk_at dksX2_power_0 1 rfl rfl)
theorem dX2_power_2 : decode cX2_power 2 = .ok (.iload_n 1, 1) := dk_27 (dk_at dksX2_power_0 2 rfl rfl)
theorem dX2_power_3 : decode cX2_power 3 = .ok (.invokevirtual 344, 3) := dk_182 1 88 (dk_at dksX2_power_0 3 rfl rfl)
theorem dX2_power_6 : decode cX2_power 6 = .ok (.invokevirtual 340, 3) := dk_182 1 84 (dk_at dksX2_power_0 6 rfl rfl)
theorem dX2_power_9 : decode cX2_power 9 = .ok (.ifCond .eq 15, 3) := dk_153 0 15 (dk_at dksX2_power_0 9 rfl rfl)
theorem dX2_power_12 : decode cX2_power 12 = .ok (.aload_n 0, 1) := dk_42 (dk_at dksX2_power_0 12 rfl rfl)
theorem dX2_power_13 : decode cX2_power 13 = .ok (.aload_n 0, 1) := dk_42 (dk_at dksX2_power_0 13 rfl rfl)
theorem dX2_power_14 : decode cX2_power 14 = .ok (.getfield 23, 3) := dk_180 0 23 (dk_at dksX2_power_0 14 rfl rfl)
theorem dX2_power_17 : decode cX2_power 17 = .ok (.iload_n 1, 1) := dk_27 (dk_at dksX2_power_0 17 rfl rfl)
theorem dX2_power_18 : decode cX2_power 18 = .ok (.invokevirtual 327, 3) := dk_182 1 71 (dk_at dksX2_power_0 18 rfl rfl)
theorem dX2_power_21 : decode cX2_power 21 = .ok (.goto 4, 3) := dk_167 0 4 (dk_at dksX2_power_0 21 rfl rfl)
theorem dX2_power_24 : decode cX2_power 24 = .ok (.lconst 0, 1) := dk_9 (dk_at dksX2_power_1 0 rfl rfl)
theorem dX2_power_25 : decode cX2_power 25 = .ok (.lreturn, 1) := dk_173 (dk_at dksX2_power_1 1 rfl rfl)
abbrev cX2_powerOf : ByteArray := prog_15_method_59_code
def yX2_powerOf : MethodName := ⟨RX2, "powerOf", "([II)J"⟩
def dkwX2_powerOf_0 : List UInt8 := [42, 28, 182, 1, 64, 42, 43, 182, 1, 67, 173]
abbrev dktX2_powerOf_0 : List UInt8 := dkwX2_powerOf_0 ++ []
theorem dksX2_powerOf_0 : cX2_powerOf.data.toList.drop 0 = dktX2_powerOf_0 := by decide +kernel
theorem dX2_powerOf_0 : decode cX2_powerOf 0 = .ok (.aload_n 0, 1) := dk_42 (dk_at dksX2_powerOf_0 0 rfl rfl)
theorem dX2_powerOf_1 : decode cX2_powerOf 1 = .ok (.iload_n 2, 1) := dk_28 (dk_at dksX2_powerOf_0 1 rfl rfl)
theorem dX2_powerOf_2 : decode cX2_powerOf 2 = .ok (.invokevirtual 320, 3) := dk_182 1 64 (dk_at dksX2_powerOf_0 2 rfl rfl)
theorem dX2_powerOf_5 : decode cX2_powerOf 5 = .ok (.aload_n 0, 1) := dk_42 (dk_at dksX2_powerOf_0 5 rfl rfl)
theorem dX2_powerOf_6 : decode cX2_powerOf 6 = .ok (.aload_n 1, 1) := dk_43 (dk_at dksX2_powerOf_0 6 rfl rfl)
theorem dX2_powerOf_7 : decode cX2_powerOf 7 = .ok (.invokevirtual 323, 3) := dk_182 1 67 (dk_at dksX2_powerOf_0 7 rfl rfl)
theorem dX2_powerOf_10 : decode cX2_powerOf 10 = .ok (.lreturn, 1) := dk_173 (dk_at dksX2_powerOf_0 10 rfl rfl)
abbrev cX2_powerHere : ByteArray := prog_15_method_58_code
def yX2_powerHere : MethodName := ⟨RX2, "powerHere", "([I)J"⟩
def dkwX2_powerHere_1 : List UInt8 := [173]
abbrev dktX2_powerHere_1 : List UInt8 := dkwX2_powerHere_1 ++ []
def dkwX2_powerHere_0 : List UInt8 := [42, 43, 182, 1, 56, 61, 28, 154, 0, 7, 9, 167, 0, 13, 42, 43, 3, 28, 182, 1, 60, 28, 133, 109]
abbrev dktX2_powerHere_0 : List UInt8 := dkwX2_powerHere_0 ++ dktX2_powerHere_1
theorem dksX2_powerHere_0 : cX2_powerHere.data.toList.drop 0 = dktX2_powerHere_0 := by decide +kernel
theorem dksX2_powerHere_1 : cX2_powerHere.data.toList.drop 24 = dktX2_powerHere_1 := dk_seg dksX2_powerHere_0 24 rfl rfl
theorem dX2_powerHere_0 : decode cX2_powerHere 0 = .ok (.aload_n 0, 1) := dk_42 (dk_at dksX2_powerHere_0 0 rfl rfl)
theorem dX2_powerHere_1 : decode cX2_powerHere 1 = .ok (.aload_n 1, 1) := dk_43 (dk_at dksX2_powerHere_0 1 rfl rfl)
theorem dX2_powerHere_2 : decode cX2_powerHere 2 = .ok (.invokevirtual 312, 3) := dk_182 1 56 (dk_at dksX2_powerHere_0 2 rfl rfl)
theorem dX2_powerHere_5 : decode cX2_powerHere 5 = .ok (.istore_n 2, 1) := dk_61 (dk_at dksX2_powerHere_0 5 rfl rfl)
theorem dX2_powerHere_6 : decode cX2_powerHere 6 = .ok (.iload_n 2, 1) := dk_28 (dk_at dksX2_powerHere_0 6 rfl rfl)
theorem dX2_powerHere_7 : decode cX2_powerHere 7 = .ok (.ifCond .ne 7, 3) := dk_154 0 7 (dk_at dksX2_powerHere_0 7 rfl rfl)
theorem dX2_powerHere_10 : decode cX2_powerHere 10 = .ok (.lconst 0, 1) := dk_9 (dk_at dksX2_powerHere_0 10 rfl rfl)
theorem dX2_powerHere_11 : decode cX2_powerHere 11 = .ok (.goto 13, 3) := dk_167 0 13 (dk_at dksX2_powerHere_0 11 rfl rfl)
theorem dX2_powerHere_14 : decode cX2_powerHere 14 = .ok (.aload_n 0, 1) := dk_42 (dk_at dksX2_powerHere_0 14 rfl rfl)
theorem dX2_powerHere_15 : decode cX2_powerHere 15 = .ok (.aload_n 1, 1) := dk_43 (dk_at dksX2_powerHere_0 15 rfl rfl)
theorem dX2_powerHere_16 : decode cX2_powerHere 16 = .ok (.iconst 0, 1) := dk_3 (dk_at dksX2_powerHere_0 16 rfl rfl)
theorem dX2_powerHere_17 : decode cX2_powerHere 17 = .ok (.iload_n 2, 1) := dk_28 (dk_at dksX2_powerHere_0 17 rfl rfl)
theorem dX2_powerHere_18 : decode cX2_powerHere 18 = .ok (.invokevirtual 316, 3) := dk_182 1 60 (dk_at dksX2_powerHere_0 18 rfl rfl)
theorem dX2_powerHere_21 : decode cX2_powerHere 21 = .ok (.iload_n 2, 1) := dk_28 (dk_at dksX2_powerHere_0 21 rfl rfl)
theorem dX2_powerHere_22 : decode cX2_powerHere 22 = .ok (.i2l, 1) := dk_133 (dk_at dksX2_powerHere_0 22 rfl rfl)
theorem dX2_powerHere_23 : decode cX2_powerHere 23 = .ok (.ldiv, 1) := dk_109 (dk_at dksX2_powerHere_0 23 rfl rfl)
theorem dX2_powerHere_24 : decode cX2_powerHere 24 = .ok (.lreturn, 1) := dk_173 (dk_at dksX2_powerHere_1 0 rfl rfl)
abbrev cX2_energy : ByteArray := prog_15_method_57_code
def yX2_energy : MethodName := ⟨RX2, "energy", "([III)J"⟩
def dkwX2_energy_1 : List UInt8 := [22, 7, 22, 7, 105, 97, 55, 4, 132, 6, 1, 167, 255, 227, 22, 4, 173]
abbrev dktX2_energy_1 : List UInt8 := dkwX2_energy_1 ++ []
def dkwX2_energy_0 : List UInt8 := [9, 55, 4, 28, 54, 6, 21, 6, 29, 162, 0, 29, 42, 43, 21, 6, 182, 1, 52, 133, 55, 7, 22, 4]
abbrev dktX2_energy_0 : List UInt8 := dkwX2_energy_0 ++ dktX2_energy_1
theorem dksX2_energy_0 : cX2_energy.data.toList.drop 0 = dktX2_energy_0 := by decide +kernel
theorem dksX2_energy_1 : cX2_energy.data.toList.drop 24 = dktX2_energy_1 := dk_seg dksX2_energy_0 24 rfl rfl
theorem dX2_energy_0 : decode cX2_energy 0 = .ok (.lconst 0, 1) := dk_9 (dk_at dksX2_energy_0 0 rfl rfl)
theorem dX2_energy_1 : decode cX2_energy 1 = .ok (.lstore 4, 2) := dk_55 4 (dk_at dksX2_energy_0 1 rfl rfl)
theorem dX2_energy_3 : decode cX2_energy 3 = .ok (.iload_n 2, 1) := dk_28 (dk_at dksX2_energy_0 3 rfl rfl)
theorem dX2_energy_4 : decode cX2_energy 4 = .ok (.istore 6, 2) := dk_54 6 (dk_at dksX2_energy_0 4 rfl rfl)
theorem dX2_energy_6 : decode cX2_energy 6 = .ok (.iload 6, 2) := dk_21 6 (dk_at dksX2_energy_0 6 rfl rfl)
theorem dX2_energy_8 : decode cX2_energy 8 = .ok (.iload_n 3, 1) := dk_29 (dk_at dksX2_energy_0 8 rfl rfl)
theorem dX2_energy_9 : decode cX2_energy 9 = .ok (.if_icmp .ge 29, 3) := dk_162 0 29 (dk_at dksX2_energy_0 9 rfl rfl)
theorem dX2_energy_12 : decode cX2_energy 12 = .ok (.aload_n 0, 1) := dk_42 (dk_at dksX2_energy_0 12 rfl rfl)
theorem dX2_energy_13 : decode cX2_energy 13 = .ok (.aload_n 1, 1) := dk_43 (dk_at dksX2_energy_0 13 rfl rfl)
theorem dX2_energy_14 : decode cX2_energy 14 = .ok (.iload 6, 2) := dk_21 6 (dk_at dksX2_energy_0 14 rfl rfl)
theorem dX2_energy_16 : decode cX2_energy 16 = .ok (.invokevirtual 308, 3) := dk_182 1 52 (dk_at dksX2_energy_0 16 rfl rfl)
theorem dX2_energy_19 : decode cX2_energy 19 = .ok (.i2l, 1) := dk_133 (dk_at dksX2_energy_0 19 rfl rfl)
theorem dX2_energy_20 : decode cX2_energy 20 = .ok (.lstore 7, 2) := dk_55 7 (dk_at dksX2_energy_0 20 rfl rfl)
theorem dX2_energy_22 : decode cX2_energy 22 = .ok (.lload 4, 2) := dk_22 4 (dk_at dksX2_energy_0 22 rfl rfl)
theorem dX2_energy_24 : decode cX2_energy 24 = .ok (.lload 7, 2) := dk_22 7 (dk_at dksX2_energy_1 0 rfl rfl)
theorem dX2_energy_26 : decode cX2_energy 26 = .ok (.lload 7, 2) := dk_22 7 (dk_at dksX2_energy_1 2 rfl rfl)
theorem dX2_energy_28 : decode cX2_energy 28 = .ok (.lmul, 1) := dk_105 (dk_at dksX2_energy_1 4 rfl rfl)
theorem dX2_energy_29 : decode cX2_energy 29 = .ok (.ladd, 1) := dk_97 (dk_at dksX2_energy_1 5 rfl rfl)
theorem dX2_energy_30 : decode cX2_energy 30 = .ok (.lstore 4, 2) := dk_55 4 (dk_at dksX2_energy_1 6 rfl rfl)
theorem dX2_energy_32 : decode cX2_energy 32 = .ok (.iinc 6 1, 3) := dk_132 6 1 (dk_at dksX2_energy_1 8 rfl rfl)
theorem dX2_energy_35 : decode cX2_energy 35 = .ok (.goto (-29), 3) := dk_167 255 227 (dk_at dksX2_energy_1 11 rfl rfl)
theorem dX2_energy_38 : decode cX2_energy 38 = .ok (.lload 4, 2) := dk_22 4 (dk_at dksX2_energy_1 14 rfl rfl)
theorem dX2_energy_40 : decode cX2_energy 40 = .ok (.lreturn, 1) := dk_173 (dk_at dksX2_energy_1 16 rfl rfl)
abbrev cX2_powerAt : ByteArray := prog_15_method_89_code
def yX2_powerAt : MethodName := ⟨RX2, "powerAt", "(II)J"⟩
def dkwX2_powerAt_1 : List UInt8 := [180, 0, 23, 182, 1, 67, 173]
abbrev dktX2_powerAt_1 : List UInt8 := dkwX2_powerAt_1 ++ []
def dkwX2_powerAt_0 : List UInt8 := [42, 27, 28, 184, 1, 97, 182, 1, 84, 154, 0, 5, 9, 173, 42, 27, 28, 182, 1, 107, 42, 42]
abbrev dktX2_powerAt_0 : List UInt8 := dkwX2_powerAt_0 ++ dktX2_powerAt_1
theorem dksX2_powerAt_0 : cX2_powerAt.data.toList.drop 0 = dktX2_powerAt_0 := by decide +kernel
theorem dksX2_powerAt_1 : cX2_powerAt.data.toList.drop 22 = dktX2_powerAt_1 := dk_seg dksX2_powerAt_0 22 rfl rfl
theorem dX2_powerAt_0 : decode cX2_powerAt 0 = .ok (.aload_n 0, 1) := dk_42 (dk_at dksX2_powerAt_0 0 rfl rfl)
theorem dX2_powerAt_1 : decode cX2_powerAt 1 = .ok (.iload_n 1, 1) := dk_27 (dk_at dksX2_powerAt_0 1 rfl rfl)
theorem dX2_powerAt_2 : decode cX2_powerAt 2 = .ok (.iload_n 2, 1) := dk_28 (dk_at dksX2_powerAt_0 2 rfl rfl)
theorem dX2_powerAt_3 : decode cX2_powerAt 3 = .ok (.invokestatic 353, 3) := dk_184 1 97 (dk_at dksX2_powerAt_0 3 rfl rfl)
theorem dX2_powerAt_6 : decode cX2_powerAt 6 = .ok (.invokevirtual 340, 3) := dk_182 1 84 (dk_at dksX2_powerAt_0 6 rfl rfl)
theorem dX2_powerAt_9 : decode cX2_powerAt 9 = .ok (.ifCond .ne 5, 3) := dk_154 0 5 (dk_at dksX2_powerAt_0 9 rfl rfl)
theorem dX2_powerAt_12 : decode cX2_powerAt 12 = .ok (.lconst 0, 1) := dk_9 (dk_at dksX2_powerAt_0 12 rfl rfl)
theorem dX2_powerAt_13 : decode cX2_powerAt 13 = .ok (.lreturn, 1) := dk_173 (dk_at dksX2_powerAt_0 13 rfl rfl)
theorem dX2_powerAt_14 : decode cX2_powerAt 14 = .ok (.aload_n 0, 1) := dk_42 (dk_at dksX2_powerAt_0 14 rfl rfl)
theorem dX2_powerAt_15 : decode cX2_powerAt 15 = .ok (.iload_n 1, 1) := dk_27 (dk_at dksX2_powerAt_0 15 rfl rfl)
theorem dX2_powerAt_16 : decode cX2_powerAt 16 = .ok (.iload_n 2, 1) := dk_28 (dk_at dksX2_powerAt_0 16 rfl rfl)
theorem dX2_powerAt_17 : decode cX2_powerAt 17 = .ok (.invokevirtual 363, 3) := dk_182 1 107 (dk_at dksX2_powerAt_0 17 rfl rfl)
theorem dX2_powerAt_20 : decode cX2_powerAt 20 = .ok (.aload_n 0, 1) := dk_42 (dk_at dksX2_powerAt_0 20 rfl rfl)
theorem dX2_powerAt_21 : decode cX2_powerAt 21 = .ok (.aload_n 0, 1) := dk_42 (dk_at dksX2_powerAt_0 21 rfl rfl)
theorem dX2_powerAt_22 : decode cX2_powerAt 22 = .ok (.getfield 23, 3) := dk_180 0 23 (dk_at dksX2_powerAt_1 0 rfl rfl)
theorem dX2_powerAt_25 : decode cX2_powerAt 25 = .ok (.invokevirtual 323, 3) := dk_182 1 67 (dk_at dksX2_powerAt_1 3 rfl rfl)
theorem dX2_powerAt_28 : decode cX2_powerAt 28 = .ok (.lreturn, 1) := dk_173 (dk_at dksX2_powerAt_1 6 rfl rfl)
abbrev cX2_laysPoint : ByteArray := prog_15_method_53_code
def yX2_laysPoint : MethodName := ⟨RX2, "laysPoint", "(II)V"⟩
def dkwX2_laysPoint_1 : List UInt8 := [79, 132, 3, 1, 167, 255, 230, 177]
abbrev dktX2_laysPoint_1 : List UInt8 := dkwX2_laysPoint_1 ++ []
def dkwX2_laysPoint_0 : List UInt8 := [3, 62, 29, 42, 180, 0, 17, 7, 46, 162, 0, 22, 42, 180, 0, 51, 29, 42, 29, 27, 28, 182, 0, 243]
abbrev dktX2_laysPoint_0 : List UInt8 := dkwX2_laysPoint_0 ++ dktX2_laysPoint_1
theorem dksX2_laysPoint_0 : cX2_laysPoint.data.toList.drop 0 = dktX2_laysPoint_0 := by decide +kernel
theorem dksX2_laysPoint_1 : cX2_laysPoint.data.toList.drop 24 = dktX2_laysPoint_1 := dk_seg dksX2_laysPoint_0 24 rfl rfl
theorem dX2_laysPoint_0 : decode cX2_laysPoint 0 = .ok (.iconst 0, 1) := dk_3 (dk_at dksX2_laysPoint_0 0 rfl rfl)
theorem dX2_laysPoint_1 : decode cX2_laysPoint 1 = .ok (.istore_n 3, 1) := dk_62 (dk_at dksX2_laysPoint_0 1 rfl rfl)
theorem dX2_laysPoint_2 : decode cX2_laysPoint 2 = .ok (.iload_n 3, 1) := dk_29 (dk_at dksX2_laysPoint_0 2 rfl rfl)
theorem dX2_laysPoint_3 : decode cX2_laysPoint 3 = .ok (.aload_n 0, 1) := dk_42 (dk_at dksX2_laysPoint_0 3 rfl rfl)
theorem dX2_laysPoint_4 : decode cX2_laysPoint 4 = .ok (.getfield 17, 3) := dk_180 0 17 (dk_at dksX2_laysPoint_0 4 rfl rfl)
theorem dX2_laysPoint_7 : decode cX2_laysPoint 7 = .ok (.iconst 4, 1) := dk_7 (dk_at dksX2_laysPoint_0 7 rfl rfl)
theorem dX2_laysPoint_8 : decode cX2_laysPoint 8 = .ok (.iaload, 1) := dk_46 (dk_at dksX2_laysPoint_0 8 rfl rfl)
theorem dX2_laysPoint_9 : decode cX2_laysPoint 9 = .ok (.if_icmp .ge 22, 3) := dk_162 0 22 (dk_at dksX2_laysPoint_0 9 rfl rfl)
theorem dX2_laysPoint_12 : decode cX2_laysPoint 12 = .ok (.aload_n 0, 1) := dk_42 (dk_at dksX2_laysPoint_0 12 rfl rfl)
theorem dX2_laysPoint_13 : decode cX2_laysPoint 13 = .ok (.getfield 51, 3) := dk_180 0 51 (dk_at dksX2_laysPoint_0 13 rfl rfl)
theorem dX2_laysPoint_16 : decode cX2_laysPoint 16 = .ok (.iload_n 3, 1) := dk_29 (dk_at dksX2_laysPoint_0 16 rfl rfl)
theorem dX2_laysPoint_17 : decode cX2_laysPoint 17 = .ok (.aload_n 0, 1) := dk_42 (dk_at dksX2_laysPoint_0 17 rfl rfl)
theorem dX2_laysPoint_18 : decode cX2_laysPoint 18 = .ok (.iload_n 3, 1) := dk_29 (dk_at dksX2_laysPoint_0 18 rfl rfl)
theorem dX2_laysPoint_19 : decode cX2_laysPoint 19 = .ok (.iload_n 1, 1) := dk_27 (dk_at dksX2_laysPoint_0 19 rfl rfl)
theorem dX2_laysPoint_20 : decode cX2_laysPoint 20 = .ok (.iload_n 2, 1) := dk_28 (dk_at dksX2_laysPoint_0 20 rfl rfl)
theorem dX2_laysPoint_21 : decode cX2_laysPoint 21 = .ok (.invokevirtual 243, 3) := dk_182 0 243 (dk_at dksX2_laysPoint_0 21 rfl rfl)
theorem dX2_laysPoint_24 : decode cX2_laysPoint 24 = .ok (.iastore, 1) := dk_79 (dk_at dksX2_laysPoint_1 0 rfl rfl)
theorem dX2_laysPoint_25 : decode cX2_laysPoint 25 = .ok (.iinc 3 1, 3) := dk_132 3 1 (dk_at dksX2_laysPoint_1 1 rfl rfl)
theorem dX2_laysPoint_28 : decode cX2_laysPoint 28 = .ok (.goto (-26), 3) := dk_167 255 230 (dk_at dksX2_laysPoint_1 4 rfl rfl)
theorem dX2_laysPoint_31 : decode cX2_laysPoint 31 = .ok (.return_, 1) := dk_177 (dk_at dksX2_laysPoint_1 7 rfl rfl)
abbrev cX2_best : ByteArray := prog_15_method_90_code
def yX2_best : MethodName := ⟨RX2, "best", "()I"⟩
def dkwX2_best_0 : List UInt8 := [42, 4, 182, 1, 84, 153, 0, 14, 42, 42, 180, 0, 23, 182, 1, 111, 167, 0, 4, 3, 172]
abbrev dktX2_best_0 : List UInt8 := dkwX2_best_0 ++ []
theorem dksX2_best_0 : cX2_best.data.toList.drop 0 = dktX2_best_0 := by decide +kernel
theorem dX2_best_0 : decode cX2_best 0 = .ok (.aload_n 0, 1) := dk_42 (dk_at dksX2_best_0 0 rfl rfl)
theorem dX2_best_1 : decode cX2_best 1 = .ok (.iconst 1, 1) := dk_4 (dk_at dksX2_best_0 1 rfl rfl)
theorem dX2_best_2 : decode cX2_best 2 = .ok (.invokevirtual 340, 3) := dk_182 1 84 (dk_at dksX2_best_0 2 rfl rfl)
theorem dX2_best_5 : decode cX2_best 5 = .ok (.ifCond .eq 14, 3) := dk_153 0 14 (dk_at dksX2_best_0 5 rfl rfl)
theorem dX2_best_8 : decode cX2_best 8 = .ok (.aload_n 0, 1) := dk_42 (dk_at dksX2_best_0 8 rfl rfl)
theorem dX2_best_9 : decode cX2_best 9 = .ok (.aload_n 0, 1) := dk_42 (dk_at dksX2_best_0 9 rfl rfl)
theorem dX2_best_10 : decode cX2_best 10 = .ok (.getfield 23, 3) := dk_180 0 23 (dk_at dksX2_best_0 10 rfl rfl)
theorem dX2_best_13 : decode cX2_best 13 = .ok (.invokevirtual 367, 3) := dk_182 1 111 (dk_at dksX2_best_0 13 rfl rfl)
theorem dX2_best_16 : decode cX2_best 16 = .ok (.goto 4, 3) := dk_167 0 4 (dk_at dksX2_best_0 16 rfl rfl)
theorem dX2_best_19 : decode cX2_best 19 = .ok (.iconst 0, 1) := dk_3 (dk_at dksX2_best_0 19 rfl rfl)
theorem dX2_best_20 : decode cX2_best 20 = .ok (.ireturn, 1) := dk_172 (dk_at dksX2_best_0 20 rfl rfl)
abbrev cX2_bestIn : ByteArray := prog_15_method_61_code
def yX2_bestIn : MethodName := ⟨RX2, "bestIn", "([I)I"⟩
def dkwX2_bestIn_1 : List UInt8 := [180, 0, 54, 28, 47, 148, 158, 0, 7, 29, 167, 0, 4, 28, 61, 132, 3, 1, 167, 255, 223, 28, 172]
abbrev dktX2_bestIn_1 : List UInt8 := dkwX2_bestIn_1 ++ []
def dkwX2_bestIn_0 : List UInt8 := [42, 43, 182, 1, 75, 3, 61, 4, 62, 29, 42, 182, 0, 237, 162, 0, 31, 42, 180, 0, 54, 29, 47, 42]
abbrev dktX2_bestIn_0 : List UInt8 := dkwX2_bestIn_0 ++ dktX2_bestIn_1
theorem dksX2_bestIn_0 : cX2_bestIn.data.toList.drop 0 = dktX2_bestIn_0 := by decide +kernel
theorem dksX2_bestIn_1 : cX2_bestIn.data.toList.drop 24 = dktX2_bestIn_1 := dk_seg dksX2_bestIn_0 24 rfl rfl
theorem dX2_bestIn_0 : decode cX2_bestIn 0 = .ok (.aload_n 0, 1) := dk_42 (dk_at dksX2_bestIn_0 0 rfl rfl)
theorem dX2_bestIn_1 : decode cX2_bestIn 1 = .ok (.aload_n 1, 1) := dk_43 (dk_at dksX2_bestIn_0 1 rfl rfl)
theorem dX2_bestIn_2 : decode cX2_bestIn 2 = .ok (.invokevirtual 331, 3) := dk_182 1 75 (dk_at dksX2_bestIn_0 2 rfl rfl)
theorem dX2_bestIn_5 : decode cX2_bestIn 5 = .ok (.iconst 0, 1) := dk_3 (dk_at dksX2_bestIn_0 5 rfl rfl)
theorem dX2_bestIn_6 : decode cX2_bestIn 6 = .ok (.istore_n 2, 1) := dk_61 (dk_at dksX2_bestIn_0 6 rfl rfl)
theorem dX2_bestIn_7 : decode cX2_bestIn 7 = .ok (.iconst 1, 1) := dk_4 (dk_at dksX2_bestIn_0 7 rfl rfl)
theorem dX2_bestIn_8 : decode cX2_bestIn 8 = .ok (.istore_n 3, 1) := dk_62 (dk_at dksX2_bestIn_0 8 rfl rfl)
theorem dX2_bestIn_9 : decode cX2_bestIn 9 = .ok (.iload_n 3, 1) := dk_29 (dk_at dksX2_bestIn_0 9 rfl rfl)
theorem dX2_bestIn_10 : decode cX2_bestIn 10 = .ok (.aload_n 0, 1) := dk_42 (dk_at dksX2_bestIn_0 10 rfl rfl)
theorem dX2_bestIn_11 : decode cX2_bestIn 11 = .ok (.invokevirtual 237, 3) := dk_182 0 237 (dk_at dksX2_bestIn_0 11 rfl rfl)
theorem dX2_bestIn_14 : decode cX2_bestIn 14 = .ok (.if_icmp .ge 31, 3) := dk_162 0 31 (dk_at dksX2_bestIn_0 14 rfl rfl)
theorem dX2_bestIn_17 : decode cX2_bestIn 17 = .ok (.aload_n 0, 1) := dk_42 (dk_at dksX2_bestIn_0 17 rfl rfl)
theorem dX2_bestIn_18 : decode cX2_bestIn 18 = .ok (.getfield 54, 3) := dk_180 0 54 (dk_at dksX2_bestIn_0 18 rfl rfl)
theorem dX2_bestIn_21 : decode cX2_bestIn 21 = .ok (.iload_n 3, 1) := dk_29 (dk_at dksX2_bestIn_0 21 rfl rfl)
theorem dX2_bestIn_22 : decode cX2_bestIn 22 = .ok (.laload, 1) := dk_47 (dk_at dksX2_bestIn_0 22 rfl rfl)
theorem dX2_bestIn_23 : decode cX2_bestIn 23 = .ok (.aload_n 0, 1) := dk_42 (dk_at dksX2_bestIn_0 23 rfl rfl)
theorem dX2_bestIn_24 : decode cX2_bestIn 24 = .ok (.getfield 54, 3) := dk_180 0 54 (dk_at dksX2_bestIn_1 0 rfl rfl)
theorem dX2_bestIn_27 : decode cX2_bestIn 27 = .ok (.iload_n 2, 1) := dk_28 (dk_at dksX2_bestIn_1 3 rfl rfl)
theorem dX2_bestIn_28 : decode cX2_bestIn 28 = .ok (.laload, 1) := dk_47 (dk_at dksX2_bestIn_1 4 rfl rfl)
theorem dX2_bestIn_29 : decode cX2_bestIn 29 = .ok (.lcmp, 1) := dk_148 (dk_at dksX2_bestIn_1 5 rfl rfl)
theorem dX2_bestIn_30 : decode cX2_bestIn 30 = .ok (.ifCond .le 7, 3) := dk_158 0 7 (dk_at dksX2_bestIn_1 6 rfl rfl)
theorem dX2_bestIn_33 : decode cX2_bestIn 33 = .ok (.iload_n 3, 1) := dk_29 (dk_at dksX2_bestIn_1 9 rfl rfl)
theorem dX2_bestIn_34 : decode cX2_bestIn 34 = .ok (.goto 4, 3) := dk_167 0 4 (dk_at dksX2_bestIn_1 10 rfl rfl)
theorem dX2_bestIn_37 : decode cX2_bestIn 37 = .ok (.iload_n 2, 1) := dk_28 (dk_at dksX2_bestIn_1 13 rfl rfl)
theorem dX2_bestIn_38 : decode cX2_bestIn 38 = .ok (.istore_n 2, 1) := dk_61 (dk_at dksX2_bestIn_1 14 rfl rfl)
theorem dX2_bestIn_39 : decode cX2_bestIn 39 = .ok (.iinc 3 1, 3) := dk_132 3 1 (dk_at dksX2_bestIn_1 15 rfl rfl)
theorem dX2_bestIn_42 : decode cX2_bestIn 42 = .ok (.goto (-33), 3) := dk_167 255 223 (dk_at dksX2_bestIn_1 18 rfl rfl)
theorem dX2_bestIn_45 : decode cX2_bestIn 45 = .ok (.iload_n 2, 1) := dk_28 (dk_at dksX2_bestIn_1 21 rfl rfl)
theorem dX2_bestIn_46 : decode cX2_bestIn 46 = .ok (.ireturn, 1) := dk_172 (dk_at dksX2_bestIn_1 22 rfl rfl)
abbrev cX2_laysPowers : ByteArray := prog_15_method_60_code
def yX2_laysPowers : MethodName := ⟨RX2, "laysPowers", "([I)V"⟩
def dkwX2_laysPowers_1 : List UInt8 := [132, 2, 1, 167, 255, 233, 177]
abbrev dktX2_laysPowers_1 : List UInt8 := dkwX2_laysPowers_1 ++ []
def dkwX2_laysPowers_0 : List UInt8 := [3, 61, 28, 42, 182, 0, 237, 162, 0, 21, 42, 180, 0, 54, 28, 42, 43, 28, 182, 1, 71, 80]
abbrev dktX2_laysPowers_0 : List UInt8 := dkwX2_laysPowers_0 ++ dktX2_laysPowers_1
theorem dksX2_laysPowers_0 : cX2_laysPowers.data.toList.drop 0 = dktX2_laysPowers_0 := by decide +kernel
theorem dksX2_laysPowers_1 : cX2_laysPowers.data.toList.drop 22 = dktX2_laysPowers_1 := dk_seg dksX2_laysPowers_0 22 rfl rfl
theorem dX2_laysPowers_0 : decode cX2_laysPowers 0 = .ok (.iconst 0, 1) := dk_3 (dk_at dksX2_laysPowers_0 0 rfl rfl)
theorem dX2_laysPowers_1 : decode cX2_laysPowers 1 = .ok (.istore_n 2, 1) := dk_61 (dk_at dksX2_laysPowers_0 1 rfl rfl)
theorem dX2_laysPowers_2 : decode cX2_laysPowers 2 = .ok (.iload_n 2, 1) := dk_28 (dk_at dksX2_laysPowers_0 2 rfl rfl)
theorem dX2_laysPowers_3 : decode cX2_laysPowers 3 = .ok (.aload_n 0, 1) := dk_42 (dk_at dksX2_laysPowers_0 3 rfl rfl)
theorem dX2_laysPowers_4 : decode cX2_laysPowers 4 = .ok (.invokevirtual 237, 3) := dk_182 0 237 (dk_at dksX2_laysPowers_0 4 rfl rfl)
theorem dX2_laysPowers_7 : decode cX2_laysPowers 7 = .ok (.if_icmp .ge 21, 3) := dk_162 0 21 (dk_at dksX2_laysPowers_0 7 rfl rfl)
theorem dX2_laysPowers_10 : decode cX2_laysPowers 10 = .ok (.aload_n 0, 1) := dk_42 (dk_at dksX2_laysPowers_0 10 rfl rfl)
theorem dX2_laysPowers_11 : decode cX2_laysPowers 11 = .ok (.getfield 54, 3) := dk_180 0 54 (dk_at dksX2_laysPowers_0 11 rfl rfl)
theorem dX2_laysPowers_14 : decode cX2_laysPowers 14 = .ok (.iload_n 2, 1) := dk_28 (dk_at dksX2_laysPowers_0 14 rfl rfl)
theorem dX2_laysPowers_15 : decode cX2_laysPowers 15 = .ok (.aload_n 0, 1) := dk_42 (dk_at dksX2_laysPowers_0 15 rfl rfl)
theorem dX2_laysPowers_16 : decode cX2_laysPowers 16 = .ok (.aload_n 1, 1) := dk_43 (dk_at dksX2_laysPowers_0 16 rfl rfl)
theorem dX2_laysPowers_17 : decode cX2_laysPowers 17 = .ok (.iload_n 2, 1) := dk_28 (dk_at dksX2_laysPowers_0 17 rfl rfl)
theorem dX2_laysPowers_18 : decode cX2_laysPowers 18 = .ok (.invokevirtual 327, 3) := dk_182 1 71 (dk_at dksX2_laysPowers_0 18 rfl rfl)
theorem dX2_laysPowers_21 : decode cX2_laysPowers 21 = .ok (.lastore, 1) := dk_80 (dk_at dksX2_laysPowers_0 21 rfl rfl)
theorem dX2_laysPowers_22 : decode cX2_laysPowers 22 = .ok (.iinc 2 1, 3) := dk_132 2 1 (dk_at dksX2_laysPowers_1 0 rfl rfl)
theorem dX2_laysPowers_25 : decode cX2_laysPowers 25 = .ok (.goto (-23), 3) := dk_167 255 233 (dk_at dksX2_laysPowers_1 3 rfl rfl)
theorem dX2_laysPowers_28 : decode cX2_laysPowers 28 = .ok (.return_, 1) := dk_177 (dk_at dksX2_laysPowers_1 6 rfl rfl)
abbrev cX2_bestPower : ByteArray := prog_15_method_91_code
def yX2_bestPower : MethodName := ⟨RX2, "bestPower", "()J"⟩
def dkwX2_bestPower_1 : List UInt8 := [9, 173]
abbrev dktX2_bestPower_1 : List UInt8 := dkwX2_bestPower_1 ++ []
def dkwX2_bestPower_0 : List UInt8 := [42, 4, 182, 1, 84, 153, 0, 19, 42, 180, 0, 54, 42, 42, 180, 0, 23, 182, 1, 111, 47, 167, 0, 4]
abbrev dktX2_bestPower_0 : List UInt8 := dkwX2_bestPower_0 ++ dktX2_bestPower_1
theorem dksX2_bestPower_0 : cX2_bestPower.data.toList.drop 0 = dktX2_bestPower_0 := by decide +kernel
theorem dksX2_bestPower_1 : cX2_bestPower.data.toList.drop 24 = dktX2_bestPower_1 := dk_seg dksX2_bestPower_0 24 rfl rfl
theorem dX2_bestPower_0 : decode cX2_bestPower 0 = .ok (.aload_n 0, 1) := dk_42 (dk_at dksX2_bestPower_0 0 rfl rfl)
theorem dX2_bestPower_1 : decode cX2_bestPower 1 = .ok (.iconst 1, 1) := dk_4 (dk_at dksX2_bestPower_0 1 rfl rfl)
theorem dX2_bestPower_2 : decode cX2_bestPower 2 = .ok (.invokevirtual 340, 3) := dk_182 1 84 (dk_at dksX2_bestPower_0 2 rfl rfl)
theorem dX2_bestPower_5 : decode cX2_bestPower 5 = .ok (.ifCond .eq 19, 3) := dk_153 0 19 (dk_at dksX2_bestPower_0 5 rfl rfl)
theorem dX2_bestPower_8 : decode cX2_bestPower 8 = .ok (.aload_n 0, 1) := dk_42 (dk_at dksX2_bestPower_0 8 rfl rfl)
theorem dX2_bestPower_9 : decode cX2_bestPower 9 = .ok (.getfield 54, 3) := dk_180 0 54 (dk_at dksX2_bestPower_0 9 rfl rfl)
theorem dX2_bestPower_12 : decode cX2_bestPower 12 = .ok (.aload_n 0, 1) := dk_42 (dk_at dksX2_bestPower_0 12 rfl rfl)
theorem dX2_bestPower_13 : decode cX2_bestPower 13 = .ok (.aload_n 0, 1) := dk_42 (dk_at dksX2_bestPower_0 13 rfl rfl)
theorem dX2_bestPower_14 : decode cX2_bestPower 14 = .ok (.getfield 23, 3) := dk_180 0 23 (dk_at dksX2_bestPower_0 14 rfl rfl)
theorem dX2_bestPower_17 : decode cX2_bestPower 17 = .ok (.invokevirtual 367, 3) := dk_182 1 111 (dk_at dksX2_bestPower_0 17 rfl rfl)
theorem dX2_bestPower_20 : decode cX2_bestPower 20 = .ok (.laload, 1) := dk_47 (dk_at dksX2_bestPower_0 20 rfl rfl)
theorem dX2_bestPower_21 : decode cX2_bestPower 21 = .ok (.goto 4, 3) := dk_167 0 4 (dk_at dksX2_bestPower_0 21 rfl rfl)
theorem dX2_bestPower_24 : decode cX2_bestPower 24 = .ok (.lconst 0, 1) := dk_9 (dk_at dksX2_bestPower_1 0 rfl rfl)
theorem dX2_bestPower_25 : decode cX2_bestPower 25 = .ok (.lreturn, 1) := dk_173 (dk_at dksX2_bestPower_1 1 rfl rfl)
abbrev cX2_meanPower : ByteArray := prog_15_method_92_code
def yX2_meanPower : MethodName := ⟨RX2, "meanPower", "()J"⟩
def dkwX2_meanPower_2 : List UInt8 := [182, 0, 237, 133, 109, 173]
abbrev dktX2_meanPower_2 : List UInt8 := dkwX2_meanPower_2 ++ []
def dkwX2_meanPower_1 : List UInt8 := [182, 0, 237, 162, 0, 18, 31, 42, 180, 0, 54, 29, 47, 97, 64, 132, 3, 1, 167, 255, 236, 31, 42]
abbrev dktX2_meanPower_1 : List UInt8 := dkwX2_meanPower_1 ++ dktX2_meanPower_2
def dkwX2_meanPower_0 : List UInt8 := [42, 4, 182, 1, 84, 154, 0, 5, 9, 173, 42, 42, 180, 0, 23, 182, 1, 75, 9, 64, 3, 62, 29, 42]
abbrev dktX2_meanPower_0 : List UInt8 := dkwX2_meanPower_0 ++ dktX2_meanPower_1
theorem dksX2_meanPower_0 : cX2_meanPower.data.toList.drop 0 = dktX2_meanPower_0 := by decide +kernel
theorem dksX2_meanPower_1 : cX2_meanPower.data.toList.drop 24 = dktX2_meanPower_1 := dk_seg dksX2_meanPower_0 24 rfl rfl
theorem dksX2_meanPower_2 : cX2_meanPower.data.toList.drop 47 = dktX2_meanPower_2 := dk_seg dksX2_meanPower_1 23 rfl rfl
theorem dX2_meanPower_0 : decode cX2_meanPower 0 = .ok (.aload_n 0, 1) := dk_42 (dk_at dksX2_meanPower_0 0 rfl rfl)
theorem dX2_meanPower_1 : decode cX2_meanPower 1 = .ok (.iconst 1, 1) := dk_4 (dk_at dksX2_meanPower_0 1 rfl rfl)
theorem dX2_meanPower_2 : decode cX2_meanPower 2 = .ok (.invokevirtual 340, 3) := dk_182 1 84 (dk_at dksX2_meanPower_0 2 rfl rfl)
theorem dX2_meanPower_5 : decode cX2_meanPower 5 = .ok (.ifCond .ne 5, 3) := dk_154 0 5 (dk_at dksX2_meanPower_0 5 rfl rfl)
theorem dX2_meanPower_8 : decode cX2_meanPower 8 = .ok (.lconst 0, 1) := dk_9 (dk_at dksX2_meanPower_0 8 rfl rfl)
theorem dX2_meanPower_9 : decode cX2_meanPower 9 = .ok (.lreturn, 1) := dk_173 (dk_at dksX2_meanPower_0 9 rfl rfl)
theorem dX2_meanPower_10 : decode cX2_meanPower 10 = .ok (.aload_n 0, 1) := dk_42 (dk_at dksX2_meanPower_0 10 rfl rfl)
theorem dX2_meanPower_11 : decode cX2_meanPower 11 = .ok (.aload_n 0, 1) := dk_42 (dk_at dksX2_meanPower_0 11 rfl rfl)
theorem dX2_meanPower_12 : decode cX2_meanPower 12 = .ok (.getfield 23, 3) := dk_180 0 23 (dk_at dksX2_meanPower_0 12 rfl rfl)
theorem dX2_meanPower_15 : decode cX2_meanPower 15 = .ok (.invokevirtual 331, 3) := dk_182 1 75 (dk_at dksX2_meanPower_0 15 rfl rfl)
theorem dX2_meanPower_18 : decode cX2_meanPower 18 = .ok (.lconst 0, 1) := dk_9 (dk_at dksX2_meanPower_0 18 rfl rfl)
theorem dX2_meanPower_19 : decode cX2_meanPower 19 = .ok (.lstore_n 1, 1) := dk_64 (dk_at dksX2_meanPower_0 19 rfl rfl)
theorem dX2_meanPower_20 : decode cX2_meanPower 20 = .ok (.iconst 0, 1) := dk_3 (dk_at dksX2_meanPower_0 20 rfl rfl)
theorem dX2_meanPower_21 : decode cX2_meanPower 21 = .ok (.istore_n 3, 1) := dk_62 (dk_at dksX2_meanPower_0 21 rfl rfl)
theorem dX2_meanPower_22 : decode cX2_meanPower 22 = .ok (.iload_n 3, 1) := dk_29 (dk_at dksX2_meanPower_0 22 rfl rfl)
theorem dX2_meanPower_23 : decode cX2_meanPower 23 = .ok (.aload_n 0, 1) := dk_42 (dk_at dksX2_meanPower_0 23 rfl rfl)
theorem dX2_meanPower_24 : decode cX2_meanPower 24 = .ok (.invokevirtual 237, 3) := dk_182 0 237 (dk_at dksX2_meanPower_1 0 rfl rfl)
theorem dX2_meanPower_27 : decode cX2_meanPower 27 = .ok (.if_icmp .ge 18, 3) := dk_162 0 18 (dk_at dksX2_meanPower_1 3 rfl rfl)
theorem dX2_meanPower_30 : decode cX2_meanPower 30 = .ok (.lload_n 1, 1) := dk_31 (dk_at dksX2_meanPower_1 6 rfl rfl)
theorem dX2_meanPower_31 : decode cX2_meanPower 31 = .ok (.aload_n 0, 1) := dk_42 (dk_at dksX2_meanPower_1 7 rfl rfl)
theorem dX2_meanPower_32 : decode cX2_meanPower 32 = .ok (.getfield 54, 3) := dk_180 0 54 (dk_at dksX2_meanPower_1 8 rfl rfl)
theorem dX2_meanPower_35 : decode cX2_meanPower 35 = .ok (.iload_n 3, 1) := dk_29 (dk_at dksX2_meanPower_1 11 rfl rfl)
theorem dX2_meanPower_36 : decode cX2_meanPower 36 = .ok (.laload, 1) := dk_47 (dk_at dksX2_meanPower_1 12 rfl rfl)
theorem dX2_meanPower_37 : decode cX2_meanPower 37 = .ok (.ladd, 1) := dk_97 (dk_at dksX2_meanPower_1 13 rfl rfl)
theorem dX2_meanPower_38 : decode cX2_meanPower 38 = .ok (.lstore_n 1, 1) := dk_64 (dk_at dksX2_meanPower_1 14 rfl rfl)
theorem dX2_meanPower_39 : decode cX2_meanPower 39 = .ok (.iinc 3 1, 3) := dk_132 3 1 (dk_at dksX2_meanPower_1 15 rfl rfl)
theorem dX2_meanPower_42 : decode cX2_meanPower 42 = .ok (.goto (-20), 3) := dk_167 255 236 (dk_at dksX2_meanPower_1 18 rfl rfl)
theorem dX2_meanPower_45 : decode cX2_meanPower 45 = .ok (.lload_n 1, 1) := dk_31 (dk_at dksX2_meanPower_1 21 rfl rfl)
theorem dX2_meanPower_46 : decode cX2_meanPower 46 = .ok (.aload_n 0, 1) := dk_42 (dk_at dksX2_meanPower_1 22 rfl rfl)
theorem dX2_meanPower_47 : decode cX2_meanPower 47 = .ok (.invokevirtual 237, 3) := dk_182 0 237 (dk_at dksX2_meanPower_2 0 rfl rfl)
theorem dX2_meanPower_50 : decode cX2_meanPower 50 = .ok (.i2l, 1) := dk_133 (dk_at dksX2_meanPower_2 3 rfl rfl)
theorem dX2_meanPower_51 : decode cX2_meanPower 51 = .ok (.ldiv, 1) := dk_109 (dk_at dksX2_meanPower_2 4 rfl rfl)
theorem dX2_meanPower_52 : decode cX2_meanPower 52 = .ok (.lreturn, 1) := dk_173 (dk_at dksX2_meanPower_2 5 rfl rfl)
abbrev cX2_peaks : ByteArray := prog_15_method_94_code
def yX2_peaks : MethodName := ⟨RX2, "peaks", "()I"⟩
def dkwX2_peaks_2 : List UInt8 := [132, 2, 1, 167, 255, 229, 27, 172]
abbrev dktX2_peaks_2 : List UInt8 := dkwX2_peaks_2 ++ []
def dkwX2_peaks_1 : List UInt8 := [182, 0, 237, 162, 0, 25, 27, 42, 28, 182, 1, 114, 153, 0, 7, 4, 167, 0, 4, 3, 96, 60]
abbrev dktX2_peaks_1 : List UInt8 := dkwX2_peaks_1 ++ dktX2_peaks_2
def dkwX2_peaks_0 : List UInt8 := [42, 4, 182, 1, 84, 154, 0, 5, 3, 172, 42, 42, 180, 0, 23, 182, 1, 75, 3, 60, 3, 61, 28, 42]
abbrev dktX2_peaks_0 : List UInt8 := dkwX2_peaks_0 ++ dktX2_peaks_1
theorem dksX2_peaks_0 : cX2_peaks.data.toList.drop 0 = dktX2_peaks_0 := by decide +kernel
theorem dksX2_peaks_1 : cX2_peaks.data.toList.drop 24 = dktX2_peaks_1 := dk_seg dksX2_peaks_0 24 rfl rfl
theorem dksX2_peaks_2 : cX2_peaks.data.toList.drop 46 = dktX2_peaks_2 := dk_seg dksX2_peaks_1 22 rfl rfl
theorem dX2_peaks_0 : decode cX2_peaks 0 = .ok (.aload_n 0, 1) := dk_42 (dk_at dksX2_peaks_0 0 rfl rfl)
theorem dX2_peaks_1 : decode cX2_peaks 1 = .ok (.iconst 1, 1) := dk_4 (dk_at dksX2_peaks_0 1 rfl rfl)
theorem dX2_peaks_2 : decode cX2_peaks 2 = .ok (.invokevirtual 340, 3) := dk_182 1 84 (dk_at dksX2_peaks_0 2 rfl rfl)
theorem dX2_peaks_5 : decode cX2_peaks 5 = .ok (.ifCond .ne 5, 3) := dk_154 0 5 (dk_at dksX2_peaks_0 5 rfl rfl)
theorem dX2_peaks_8 : decode cX2_peaks 8 = .ok (.iconst 0, 1) := dk_3 (dk_at dksX2_peaks_0 8 rfl rfl)
theorem dX2_peaks_9 : decode cX2_peaks 9 = .ok (.ireturn, 1) := dk_172 (dk_at dksX2_peaks_0 9 rfl rfl)
theorem dX2_peaks_10 : decode cX2_peaks 10 = .ok (.aload_n 0, 1) := dk_42 (dk_at dksX2_peaks_0 10 rfl rfl)
theorem dX2_peaks_11 : decode cX2_peaks 11 = .ok (.aload_n 0, 1) := dk_42 (dk_at dksX2_peaks_0 11 rfl rfl)
theorem dX2_peaks_12 : decode cX2_peaks 12 = .ok (.getfield 23, 3) := dk_180 0 23 (dk_at dksX2_peaks_0 12 rfl rfl)
theorem dX2_peaks_15 : decode cX2_peaks 15 = .ok (.invokevirtual 331, 3) := dk_182 1 75 (dk_at dksX2_peaks_0 15 rfl rfl)
theorem dX2_peaks_18 : decode cX2_peaks 18 = .ok (.iconst 0, 1) := dk_3 (dk_at dksX2_peaks_0 18 rfl rfl)
theorem dX2_peaks_19 : decode cX2_peaks 19 = .ok (.istore_n 1, 1) := dk_60 (dk_at dksX2_peaks_0 19 rfl rfl)
theorem dX2_peaks_20 : decode cX2_peaks 20 = .ok (.iconst 0, 1) := dk_3 (dk_at dksX2_peaks_0 20 rfl rfl)
theorem dX2_peaks_21 : decode cX2_peaks 21 = .ok (.istore_n 2, 1) := dk_61 (dk_at dksX2_peaks_0 21 rfl rfl)
theorem dX2_peaks_22 : decode cX2_peaks 22 = .ok (.iload_n 2, 1) := dk_28 (dk_at dksX2_peaks_0 22 rfl rfl)
theorem dX2_peaks_23 : decode cX2_peaks 23 = .ok (.aload_n 0, 1) := dk_42 (dk_at dksX2_peaks_0 23 rfl rfl)
theorem dX2_peaks_24 : decode cX2_peaks 24 = .ok (.invokevirtual 237, 3) := dk_182 0 237 (dk_at dksX2_peaks_1 0 rfl rfl)
theorem dX2_peaks_27 : decode cX2_peaks 27 = .ok (.if_icmp .ge 25, 3) := dk_162 0 25 (dk_at dksX2_peaks_1 3 rfl rfl)
theorem dX2_peaks_30 : decode cX2_peaks 30 = .ok (.iload_n 1, 1) := dk_27 (dk_at dksX2_peaks_1 6 rfl rfl)
theorem dX2_peaks_31 : decode cX2_peaks 31 = .ok (.aload_n 0, 1) := dk_42 (dk_at dksX2_peaks_1 7 rfl rfl)
theorem dX2_peaks_32 : decode cX2_peaks 32 = .ok (.iload_n 2, 1) := dk_28 (dk_at dksX2_peaks_1 8 rfl rfl)
theorem dX2_peaks_33 : decode cX2_peaks 33 = .ok (.invokevirtual 370, 3) := dk_182 1 114 (dk_at dksX2_peaks_1 9 rfl rfl)
theorem dX2_peaks_36 : decode cX2_peaks 36 = .ok (.ifCond .eq 7, 3) := dk_153 0 7 (dk_at dksX2_peaks_1 12 rfl rfl)
theorem dX2_peaks_39 : decode cX2_peaks 39 = .ok (.iconst 1, 1) := dk_4 (dk_at dksX2_peaks_1 15 rfl rfl)
theorem dX2_peaks_40 : decode cX2_peaks 40 = .ok (.goto 4, 3) := dk_167 0 4 (dk_at dksX2_peaks_1 16 rfl rfl)
theorem dX2_peaks_43 : decode cX2_peaks 43 = .ok (.iconst 0, 1) := dk_3 (dk_at dksX2_peaks_1 19 rfl rfl)
theorem dX2_peaks_44 : decode cX2_peaks 44 = .ok (.iadd, 1) := dk_96 (dk_at dksX2_peaks_1 20 rfl rfl)
theorem dX2_peaks_45 : decode cX2_peaks 45 = .ok (.istore_n 1, 1) := dk_60 (dk_at dksX2_peaks_1 21 rfl rfl)
theorem dX2_peaks_46 : decode cX2_peaks 46 = .ok (.iinc 2 1, 3) := dk_132 2 1 (dk_at dksX2_peaks_2 0 rfl rfl)
theorem dX2_peaks_49 : decode cX2_peaks 49 = .ok (.goto (-27), 3) := dk_167 255 229 (dk_at dksX2_peaks_2 3 rfl rfl)
theorem dX2_peaks_52 : decode cX2_peaks 52 = .ok (.iload_n 1, 1) := dk_27 (dk_at dksX2_peaks_2 6 rfl rfl)
theorem dX2_peaks_53 : decode cX2_peaks 53 = .ok (.ireturn, 1) := dk_172 (dk_at dksX2_peaks_2 7 rfl rfl)
abbrev cX2_isTop : ByteArray := prog_15_method_93_code
def yX2_isTop : MethodName := ⟨RX2, "isTop", "(I)Z"⟩
def dkwX2_isTop_5 : List UInt8 := [172, 132, 5, 1, 167, 255, 193, 132, 4, 1, 167, 255, 158, 4, 172]
abbrev dktX2_isTop_5 : List UInt8 := dkwX2_isTop_5 ++ []
def dkwX2_isTop_4 : List UInt8 := [21, 6, 27, 159, 0, 22, 42, 180, 0, 54, 21, 6, 47, 42, 180, 0, 54, 27, 47, 148, 155, 0, 5, 3]
abbrev dktX2_isTop_4 : List UInt8 := dkwX2_isTop_4 ++ dktX2_isTop_5
def dkwX2_isTop_3 : List UInt8 := [4, 96, 184, 1, 12, 163, 0, 49, 42, 180, 0, 17, 16, 9, 46, 21, 4, 104, 21, 5, 96, 54, 6]
abbrev dktX2_isTop_3 : List UInt8 := dkwX2_isTop_3 ++ dktX2_isTop_4
def dkwX2_isTop_2 : List UInt8 := [163, 0, 84, 3, 28, 4, 100, 184, 1, 15, 54, 5, 21, 5, 42, 180, 0, 17, 16, 9, 46, 4, 100, 28]
abbrev dktX2_isTop_2 : List UInt8 := dkwX2_isTop_2 ++ dktX2_isTop_3
def dkwX2_isTop_1 : List UInt8 := [184, 1, 15, 54, 4, 21, 4, 42, 180, 0, 17, 16, 10, 46, 4, 100, 29, 4, 96, 184, 1, 12]
abbrev dktX2_isTop_1 : List UInt8 := dkwX2_isTop_1 ++ dktX2_isTop_2
def dkwX2_isTop_0 : List UInt8 := [27, 42, 180, 0, 17, 16, 9, 46, 112, 61, 27, 42, 180, 0, 17, 16, 9, 46, 108, 62, 3, 29, 4, 100]
abbrev dktX2_isTop_0 : List UInt8 := dkwX2_isTop_0 ++ dktX2_isTop_1
theorem dksX2_isTop_0 : cX2_isTop.data.toList.drop 0 = dktX2_isTop_0 := by decide +kernel
theorem dksX2_isTop_1 : cX2_isTop.data.toList.drop 24 = dktX2_isTop_1 := dk_seg dksX2_isTop_0 24 rfl rfl
theorem dksX2_isTop_2 : cX2_isTop.data.toList.drop 46 = dktX2_isTop_2 := dk_seg dksX2_isTop_1 22 rfl rfl
theorem dksX2_isTop_3 : cX2_isTop.data.toList.drop 70 = dktX2_isTop_3 := dk_seg dksX2_isTop_2 24 rfl rfl
theorem dksX2_isTop_4 : cX2_isTop.data.toList.drop 93 = dktX2_isTop_4 := dk_seg dksX2_isTop_3 23 rfl rfl
theorem dksX2_isTop_5 : cX2_isTop.data.toList.drop 117 = dktX2_isTop_5 := dk_seg dksX2_isTop_4 24 rfl rfl
theorem dX2_isTop_0 : decode cX2_isTop 0 = .ok (.iload_n 1, 1) := dk_27 (dk_at dksX2_isTop_0 0 rfl rfl)
theorem dX2_isTop_1 : decode cX2_isTop 1 = .ok (.aload_n 0, 1) := dk_42 (dk_at dksX2_isTop_0 1 rfl rfl)
theorem dX2_isTop_2 : decode cX2_isTop 2 = .ok (.getfield 17, 3) := dk_180 0 17 (dk_at dksX2_isTop_0 2 rfl rfl)
theorem dX2_isTop_5 : decode cX2_isTop 5 = .ok (.bipush 9, 2) := dk_16 9 (dk_at dksX2_isTop_0 5 rfl rfl)
theorem dX2_isTop_7 : decode cX2_isTop 7 = .ok (.iaload, 1) := dk_46 (dk_at dksX2_isTop_0 7 rfl rfl)
theorem dX2_isTop_8 : decode cX2_isTop 8 = .ok (.irem, 1) := dk_112 (dk_at dksX2_isTop_0 8 rfl rfl)
theorem dX2_isTop_9 : decode cX2_isTop 9 = .ok (.istore_n 2, 1) := dk_61 (dk_at dksX2_isTop_0 9 rfl rfl)
theorem dX2_isTop_10 : decode cX2_isTop 10 = .ok (.iload_n 1, 1) := dk_27 (dk_at dksX2_isTop_0 10 rfl rfl)
theorem dX2_isTop_11 : decode cX2_isTop 11 = .ok (.aload_n 0, 1) := dk_42 (dk_at dksX2_isTop_0 11 rfl rfl)
theorem dX2_isTop_12 : decode cX2_isTop 12 = .ok (.getfield 17, 3) := dk_180 0 17 (dk_at dksX2_isTop_0 12 rfl rfl)
theorem dX2_isTop_15 : decode cX2_isTop 15 = .ok (.bipush 9, 2) := dk_16 9 (dk_at dksX2_isTop_0 15 rfl rfl)
theorem dX2_isTop_17 : decode cX2_isTop 17 = .ok (.iaload, 1) := dk_46 (dk_at dksX2_isTop_0 17 rfl rfl)
theorem dX2_isTop_18 : decode cX2_isTop 18 = .ok (.idiv, 1) := dk_108 (dk_at dksX2_isTop_0 18 rfl rfl)
theorem dX2_isTop_19 : decode cX2_isTop 19 = .ok (.istore_n 3, 1) := dk_62 (dk_at dksX2_isTop_0 19 rfl rfl)
theorem dX2_isTop_20 : decode cX2_isTop 20 = .ok (.iconst 0, 1) := dk_3 (dk_at dksX2_isTop_0 20 rfl rfl)
theorem dX2_isTop_21 : decode cX2_isTop 21 = .ok (.iload_n 3, 1) := dk_29 (dk_at dksX2_isTop_0 21 rfl rfl)
theorem dX2_isTop_22 : decode cX2_isTop 22 = .ok (.iconst 1, 1) := dk_4 (dk_at dksX2_isTop_0 22 rfl rfl)
theorem dX2_isTop_23 : decode cX2_isTop 23 = .ok (.isub, 1) := dk_100 (dk_at dksX2_isTop_0 23 rfl rfl)
theorem dX2_isTop_24 : decode cX2_isTop 24 = .ok (.invokestatic 271, 3) := dk_184 1 15 (dk_at dksX2_isTop_1 0 rfl rfl)
theorem dX2_isTop_27 : decode cX2_isTop 27 = .ok (.istore 4, 2) := dk_54 4 (dk_at dksX2_isTop_1 3 rfl rfl)
theorem dX2_isTop_29 : decode cX2_isTop 29 = .ok (.iload 4, 2) := dk_21 4 (dk_at dksX2_isTop_1 5 rfl rfl)
theorem dX2_isTop_31 : decode cX2_isTop 31 = .ok (.aload_n 0, 1) := dk_42 (dk_at dksX2_isTop_1 7 rfl rfl)
theorem dX2_isTop_32 : decode cX2_isTop 32 = .ok (.getfield 17, 3) := dk_180 0 17 (dk_at dksX2_isTop_1 8 rfl rfl)
theorem dX2_isTop_35 : decode cX2_isTop 35 = .ok (.bipush 10, 2) := dk_16 10 (dk_at dksX2_isTop_1 11 rfl rfl)
theorem dX2_isTop_37 : decode cX2_isTop 37 = .ok (.iaload, 1) := dk_46 (dk_at dksX2_isTop_1 13 rfl rfl)
theorem dX2_isTop_38 : decode cX2_isTop 38 = .ok (.iconst 1, 1) := dk_4 (dk_at dksX2_isTop_1 14 rfl rfl)
theorem dX2_isTop_39 : decode cX2_isTop 39 = .ok (.isub, 1) := dk_100 (dk_at dksX2_isTop_1 15 rfl rfl)
theorem dX2_isTop_40 : decode cX2_isTop 40 = .ok (.iload_n 3, 1) := dk_29 (dk_at dksX2_isTop_1 16 rfl rfl)
theorem dX2_isTop_41 : decode cX2_isTop 41 = .ok (.iconst 1, 1) := dk_4 (dk_at dksX2_isTop_1 17 rfl rfl)
theorem dX2_isTop_42 : decode cX2_isTop 42 = .ok (.iadd, 1) := dk_96 (dk_at dksX2_isTop_1 18 rfl rfl)
theorem dX2_isTop_43 : decode cX2_isTop 43 = .ok (.invokestatic 268, 3) := dk_184 1 12 (dk_at dksX2_isTop_1 19 rfl rfl)
theorem dX2_isTop_46 : decode cX2_isTop 46 = .ok (.if_icmp .gt 84, 3) := dk_163 0 84 (dk_at dksX2_isTop_2 0 rfl rfl)
theorem dX2_isTop_49 : decode cX2_isTop 49 = .ok (.iconst 0, 1) := dk_3 (dk_at dksX2_isTop_2 3 rfl rfl)
theorem dX2_isTop_50 : decode cX2_isTop 50 = .ok (.iload_n 2, 1) := dk_28 (dk_at dksX2_isTop_2 4 rfl rfl)
theorem dX2_isTop_51 : decode cX2_isTop 51 = .ok (.iconst 1, 1) := dk_4 (dk_at dksX2_isTop_2 5 rfl rfl)
theorem dX2_isTop_52 : decode cX2_isTop 52 = .ok (.isub, 1) := dk_100 (dk_at dksX2_isTop_2 6 rfl rfl)
theorem dX2_isTop_53 : decode cX2_isTop 53 = .ok (.invokestatic 271, 3) := dk_184 1 15 (dk_at dksX2_isTop_2 7 rfl rfl)
theorem dX2_isTop_56 : decode cX2_isTop 56 = .ok (.istore 5, 2) := dk_54 5 (dk_at dksX2_isTop_2 10 rfl rfl)
theorem dX2_isTop_58 : decode cX2_isTop 58 = .ok (.iload 5, 2) := dk_21 5 (dk_at dksX2_isTop_2 12 rfl rfl)
theorem dX2_isTop_60 : decode cX2_isTop 60 = .ok (.aload_n 0, 1) := dk_42 (dk_at dksX2_isTop_2 14 rfl rfl)
theorem dX2_isTop_61 : decode cX2_isTop 61 = .ok (.getfield 17, 3) := dk_180 0 17 (dk_at dksX2_isTop_2 15 rfl rfl)
theorem dX2_isTop_64 : decode cX2_isTop 64 = .ok (.bipush 9, 2) := dk_16 9 (dk_at dksX2_isTop_2 18 rfl rfl)
theorem dX2_isTop_66 : decode cX2_isTop 66 = .ok (.iaload, 1) := dk_46 (dk_at dksX2_isTop_2 20 rfl rfl)
theorem dX2_isTop_67 : decode cX2_isTop 67 = .ok (.iconst 1, 1) := dk_4 (dk_at dksX2_isTop_2 21 rfl rfl)
theorem dX2_isTop_68 : decode cX2_isTop 68 = .ok (.isub, 1) := dk_100 (dk_at dksX2_isTop_2 22 rfl rfl)
theorem dX2_isTop_69 : decode cX2_isTop 69 = .ok (.iload_n 2, 1) := dk_28 (dk_at dksX2_isTop_2 23 rfl rfl)
theorem dX2_isTop_70 : decode cX2_isTop 70 = .ok (.iconst 1, 1) := dk_4 (dk_at dksX2_isTop_3 0 rfl rfl)
theorem dX2_isTop_71 : decode cX2_isTop 71 = .ok (.iadd, 1) := dk_96 (dk_at dksX2_isTop_3 1 rfl rfl)
theorem dX2_isTop_72 : decode cX2_isTop 72 = .ok (.invokestatic 268, 3) := dk_184 1 12 (dk_at dksX2_isTop_3 2 rfl rfl)
theorem dX2_isTop_75 : decode cX2_isTop 75 = .ok (.if_icmp .gt 49, 3) := dk_163 0 49 (dk_at dksX2_isTop_3 5 rfl rfl)
theorem dX2_isTop_78 : decode cX2_isTop 78 = .ok (.aload_n 0, 1) := dk_42 (dk_at dksX2_isTop_3 8 rfl rfl)
theorem dX2_isTop_79 : decode cX2_isTop 79 = .ok (.getfield 17, 3) := dk_180 0 17 (dk_at dksX2_isTop_3 9 rfl rfl)
theorem dX2_isTop_82 : decode cX2_isTop 82 = .ok (.bipush 9, 2) := dk_16 9 (dk_at dksX2_isTop_3 12 rfl rfl)
theorem dX2_isTop_84 : decode cX2_isTop 84 = .ok (.iaload, 1) := dk_46 (dk_at dksX2_isTop_3 14 rfl rfl)
theorem dX2_isTop_85 : decode cX2_isTop 85 = .ok (.iload 4, 2) := dk_21 4 (dk_at dksX2_isTop_3 15 rfl rfl)
theorem dX2_isTop_87 : decode cX2_isTop 87 = .ok (.imul, 1) := dk_104 (dk_at dksX2_isTop_3 17 rfl rfl)
theorem dX2_isTop_88 : decode cX2_isTop 88 = .ok (.iload 5, 2) := dk_21 5 (dk_at dksX2_isTop_3 18 rfl rfl)
theorem dX2_isTop_90 : decode cX2_isTop 90 = .ok (.iadd, 1) := dk_96 (dk_at dksX2_isTop_3 20 rfl rfl)
theorem dX2_isTop_91 : decode cX2_isTop 91 = .ok (.istore 6, 2) := dk_54 6 (dk_at dksX2_isTop_3 21 rfl rfl)
theorem dX2_isTop_93 : decode cX2_isTop 93 = .ok (.iload 6, 2) := dk_21 6 (dk_at dksX2_isTop_4 0 rfl rfl)
theorem dX2_isTop_95 : decode cX2_isTop 95 = .ok (.iload_n 1, 1) := dk_27 (dk_at dksX2_isTop_4 2 rfl rfl)
theorem dX2_isTop_96 : decode cX2_isTop 96 = .ok (.if_icmp .eq 22, 3) := dk_159 0 22 (dk_at dksX2_isTop_4 3 rfl rfl)
theorem dX2_isTop_99 : decode cX2_isTop 99 = .ok (.aload_n 0, 1) := dk_42 (dk_at dksX2_isTop_4 6 rfl rfl)
theorem dX2_isTop_100 : decode cX2_isTop 100 = .ok (.getfield 54, 3) := dk_180 0 54 (dk_at dksX2_isTop_4 7 rfl rfl)
theorem dX2_isTop_103 : decode cX2_isTop 103 = .ok (.iload 6, 2) := dk_21 6 (dk_at dksX2_isTop_4 10 rfl rfl)
theorem dX2_isTop_105 : decode cX2_isTop 105 = .ok (.laload, 1) := dk_47 (dk_at dksX2_isTop_4 12 rfl rfl)
theorem dX2_isTop_106 : decode cX2_isTop 106 = .ok (.aload_n 0, 1) := dk_42 (dk_at dksX2_isTop_4 13 rfl rfl)
theorem dX2_isTop_107 : decode cX2_isTop 107 = .ok (.getfield 54, 3) := dk_180 0 54 (dk_at dksX2_isTop_4 14 rfl rfl)
theorem dX2_isTop_110 : decode cX2_isTop 110 = .ok (.iload_n 1, 1) := dk_27 (dk_at dksX2_isTop_4 17 rfl rfl)
theorem dX2_isTop_111 : decode cX2_isTop 111 = .ok (.laload, 1) := dk_47 (dk_at dksX2_isTop_4 18 rfl rfl)
theorem dX2_isTop_112 : decode cX2_isTop 112 = .ok (.lcmp, 1) := dk_148 (dk_at dksX2_isTop_4 19 rfl rfl)
theorem dX2_isTop_113 : decode cX2_isTop 113 = .ok (.ifCond .lt 5, 3) := dk_155 0 5 (dk_at dksX2_isTop_4 20 rfl rfl)
theorem dX2_isTop_116 : decode cX2_isTop 116 = .ok (.iconst 0, 1) := dk_3 (dk_at dksX2_isTop_4 23 rfl rfl)
theorem dX2_isTop_117 : decode cX2_isTop 117 = .ok (.ireturn, 1) := dk_172 (dk_at dksX2_isTop_5 0 rfl rfl)
theorem dX2_isTop_118 : decode cX2_isTop 118 = .ok (.iinc 5 1, 3) := dk_132 5 1 (dk_at dksX2_isTop_5 1 rfl rfl)
theorem dX2_isTop_121 : decode cX2_isTop 121 = .ok (.goto (-63), 3) := dk_167 255 193 (dk_at dksX2_isTop_5 4 rfl rfl)
theorem dX2_isTop_124 : decode cX2_isTop 124 = .ok (.iinc 4 1, 3) := dk_132 4 1 (dk_at dksX2_isTop_5 7 rfl rfl)
theorem dX2_isTop_127 : decode cX2_isTop 127 = .ok (.goto (-98), 3) := dk_167 255 158 (dk_at dksX2_isTop_5 10 rfl rfl)
theorem dX2_isTop_130 : decode cX2_isTop 130 = .ok (.iconst 1, 1) := dk_4 (dk_at dksX2_isTop_5 13 rfl rfl)
theorem dX2_isTop_131 : decode cX2_isTop 131 = .ok (.ireturn, 1) := dk_172 (dk_at dksX2_isTop_5 14 rfl rfl)
abbrev cX2_peakAt : ByteArray := prog_15_method_96_code
def yX2_peakAt : MethodName := ⟨RX2, "peakAt", "(I)I"⟩
def dkwX2_peakAt_4 : List UInt8 := [160, 0, 5, 28, 172, 132, 2, 1, 167, 255, 174, 42, 5, 182, 0, 227, 172]
abbrev dktX2_peakAt_4 : List UInt8 := dkwX2_peakAt_4 ++ []
def dkwX2_peakAt_3 : List UInt8 := [21, 4, 28, 182, 1, 117, 153, 0, 7, 4, 167, 0, 4, 3, 96, 62, 132, 4, 1, 167, 255, 211, 29, 27]
abbrev dktX2_peakAt_3 : List UInt8 := dkwX2_peakAt_3 ++ dktX2_peakAt_4
def dkwX2_peakAt_2 : List UInt8 := [42, 182, 0, 237, 162, 0, 42, 29, 21, 4, 28, 159, 0, 26, 42, 21, 4, 182, 1, 114, 153, 0, 17, 42]
abbrev dktX2_peakAt_2 : List UInt8 := dkwX2_peakAt_2 ++ dktX2_peakAt_3
def dkwX2_peakAt_1 : List UInt8 := [182, 0, 237, 162, 0, 80, 42, 28, 182, 1, 114, 154, 0, 6, 167, 0, 63, 3, 62, 3, 54, 4, 21, 4]
abbrev dktX2_peakAt_1 : List UInt8 := dkwX2_peakAt_1 ++ dktX2_peakAt_2
def dkwX2_peakAt_0 : List UInt8 := [42, 4, 182, 1, 84, 154, 0, 5, 3, 172, 42, 42, 180, 0, 23, 182, 1, 75, 3, 61, 28, 42]
abbrev dktX2_peakAt_0 : List UInt8 := dkwX2_peakAt_0 ++ dktX2_peakAt_1
theorem dksX2_peakAt_0 : cX2_peakAt.data.toList.drop 0 = dktX2_peakAt_0 := by decide +kernel
theorem dksX2_peakAt_1 : cX2_peakAt.data.toList.drop 22 = dktX2_peakAt_1 := dk_seg dksX2_peakAt_0 22 rfl rfl
theorem dksX2_peakAt_2 : cX2_peakAt.data.toList.drop 46 = dktX2_peakAt_2 := dk_seg dksX2_peakAt_1 24 rfl rfl
theorem dksX2_peakAt_3 : cX2_peakAt.data.toList.drop 70 = dktX2_peakAt_3 := dk_seg dksX2_peakAt_2 24 rfl rfl
theorem dksX2_peakAt_4 : cX2_peakAt.data.toList.drop 94 = dktX2_peakAt_4 := dk_seg dksX2_peakAt_3 24 rfl rfl
theorem dX2_peakAt_0 : decode cX2_peakAt 0 = .ok (.aload_n 0, 1) := dk_42 (dk_at dksX2_peakAt_0 0 rfl rfl)
theorem dX2_peakAt_1 : decode cX2_peakAt 1 = .ok (.iconst 1, 1) := dk_4 (dk_at dksX2_peakAt_0 1 rfl rfl)
theorem dX2_peakAt_2 : decode cX2_peakAt 2 = .ok (.invokevirtual 340, 3) := dk_182 1 84 (dk_at dksX2_peakAt_0 2 rfl rfl)
theorem dX2_peakAt_5 : decode cX2_peakAt 5 = .ok (.ifCond .ne 5, 3) := dk_154 0 5 (dk_at dksX2_peakAt_0 5 rfl rfl)
theorem dX2_peakAt_8 : decode cX2_peakAt 8 = .ok (.iconst 0, 1) := dk_3 (dk_at dksX2_peakAt_0 8 rfl rfl)
theorem dX2_peakAt_9 : decode cX2_peakAt 9 = .ok (.ireturn, 1) := dk_172 (dk_at dksX2_peakAt_0 9 rfl rfl)
theorem dX2_peakAt_10 : decode cX2_peakAt 10 = .ok (.aload_n 0, 1) := dk_42 (dk_at dksX2_peakAt_0 10 rfl rfl)
theorem dX2_peakAt_11 : decode cX2_peakAt 11 = .ok (.aload_n 0, 1) := dk_42 (dk_at dksX2_peakAt_0 11 rfl rfl)
theorem dX2_peakAt_12 : decode cX2_peakAt 12 = .ok (.getfield 23, 3) := dk_180 0 23 (dk_at dksX2_peakAt_0 12 rfl rfl)
theorem dX2_peakAt_15 : decode cX2_peakAt 15 = .ok (.invokevirtual 331, 3) := dk_182 1 75 (dk_at dksX2_peakAt_0 15 rfl rfl)
theorem dX2_peakAt_18 : decode cX2_peakAt 18 = .ok (.iconst 0, 1) := dk_3 (dk_at dksX2_peakAt_0 18 rfl rfl)
theorem dX2_peakAt_19 : decode cX2_peakAt 19 = .ok (.istore_n 2, 1) := dk_61 (dk_at dksX2_peakAt_0 19 rfl rfl)
theorem dX2_peakAt_20 : decode cX2_peakAt 20 = .ok (.iload_n 2, 1) := dk_28 (dk_at dksX2_peakAt_0 20 rfl rfl)
theorem dX2_peakAt_21 : decode cX2_peakAt 21 = .ok (.aload_n 0, 1) := dk_42 (dk_at dksX2_peakAt_0 21 rfl rfl)
theorem dX2_peakAt_22 : decode cX2_peakAt 22 = .ok (.invokevirtual 237, 3) := dk_182 0 237 (dk_at dksX2_peakAt_1 0 rfl rfl)
theorem dX2_peakAt_25 : decode cX2_peakAt 25 = .ok (.if_icmp .ge 80, 3) := dk_162 0 80 (dk_at dksX2_peakAt_1 3 rfl rfl)
theorem dX2_peakAt_28 : decode cX2_peakAt 28 = .ok (.aload_n 0, 1) := dk_42 (dk_at dksX2_peakAt_1 6 rfl rfl)
theorem dX2_peakAt_29 : decode cX2_peakAt 29 = .ok (.iload_n 2, 1) := dk_28 (dk_at dksX2_peakAt_1 7 rfl rfl)
theorem dX2_peakAt_30 : decode cX2_peakAt 30 = .ok (.invokevirtual 370, 3) := dk_182 1 114 (dk_at dksX2_peakAt_1 8 rfl rfl)
theorem dX2_peakAt_33 : decode cX2_peakAt 33 = .ok (.ifCond .ne 6, 3) := dk_154 0 6 (dk_at dksX2_peakAt_1 11 rfl rfl)
theorem dX2_peakAt_36 : decode cX2_peakAt 36 = .ok (.goto 63, 3) := dk_167 0 63 (dk_at dksX2_peakAt_1 14 rfl rfl)
theorem dX2_peakAt_39 : decode cX2_peakAt 39 = .ok (.iconst 0, 1) := dk_3 (dk_at dksX2_peakAt_1 17 rfl rfl)
theorem dX2_peakAt_40 : decode cX2_peakAt 40 = .ok (.istore_n 3, 1) := dk_62 (dk_at dksX2_peakAt_1 18 rfl rfl)
theorem dX2_peakAt_41 : decode cX2_peakAt 41 = .ok (.iconst 0, 1) := dk_3 (dk_at dksX2_peakAt_1 19 rfl rfl)
theorem dX2_peakAt_42 : decode cX2_peakAt 42 = .ok (.istore 4, 2) := dk_54 4 (dk_at dksX2_peakAt_1 20 rfl rfl)
theorem dX2_peakAt_44 : decode cX2_peakAt 44 = .ok (.iload 4, 2) := dk_21 4 (dk_at dksX2_peakAt_1 22 rfl rfl)
theorem dX2_peakAt_46 : decode cX2_peakAt 46 = .ok (.aload_n 0, 1) := dk_42 (dk_at dksX2_peakAt_2 0 rfl rfl)
theorem dX2_peakAt_47 : decode cX2_peakAt 47 = .ok (.invokevirtual 237, 3) := dk_182 0 237 (dk_at dksX2_peakAt_2 1 rfl rfl)
theorem dX2_peakAt_50 : decode cX2_peakAt 50 = .ok (.if_icmp .ge 42, 3) := dk_162 0 42 (dk_at dksX2_peakAt_2 4 rfl rfl)
theorem dX2_peakAt_53 : decode cX2_peakAt 53 = .ok (.iload_n 3, 1) := dk_29 (dk_at dksX2_peakAt_2 7 rfl rfl)
theorem dX2_peakAt_54 : decode cX2_peakAt 54 = .ok (.iload 4, 2) := dk_21 4 (dk_at dksX2_peakAt_2 8 rfl rfl)
theorem dX2_peakAt_56 : decode cX2_peakAt 56 = .ok (.iload_n 2, 1) := dk_28 (dk_at dksX2_peakAt_2 10 rfl rfl)
theorem dX2_peakAt_57 : decode cX2_peakAt 57 = .ok (.if_icmp .eq 26, 3) := dk_159 0 26 (dk_at dksX2_peakAt_2 11 rfl rfl)
theorem dX2_peakAt_60 : decode cX2_peakAt 60 = .ok (.aload_n 0, 1) := dk_42 (dk_at dksX2_peakAt_2 14 rfl rfl)
theorem dX2_peakAt_61 : decode cX2_peakAt 61 = .ok (.iload 4, 2) := dk_21 4 (dk_at dksX2_peakAt_2 15 rfl rfl)
theorem dX2_peakAt_63 : decode cX2_peakAt 63 = .ok (.invokevirtual 370, 3) := dk_182 1 114 (dk_at dksX2_peakAt_2 17 rfl rfl)
theorem dX2_peakAt_66 : decode cX2_peakAt 66 = .ok (.ifCond .eq 17, 3) := dk_153 0 17 (dk_at dksX2_peakAt_2 20 rfl rfl)
theorem dX2_peakAt_69 : decode cX2_peakAt 69 = .ok (.aload_n 0, 1) := dk_42 (dk_at dksX2_peakAt_2 23 rfl rfl)
theorem dX2_peakAt_70 : decode cX2_peakAt 70 = .ok (.iload 4, 2) := dk_21 4 (dk_at dksX2_peakAt_3 0 rfl rfl)
theorem dX2_peakAt_72 : decode cX2_peakAt 72 = .ok (.iload_n 2, 1) := dk_28 (dk_at dksX2_peakAt_3 2 rfl rfl)
theorem dX2_peakAt_73 : decode cX2_peakAt 73 = .ok (.invokevirtual 373, 3) := dk_182 1 117 (dk_at dksX2_peakAt_3 3 rfl rfl)
theorem dX2_peakAt_76 : decode cX2_peakAt 76 = .ok (.ifCond .eq 7, 3) := dk_153 0 7 (dk_at dksX2_peakAt_3 6 rfl rfl)
theorem dX2_peakAt_79 : decode cX2_peakAt 79 = .ok (.iconst 1, 1) := dk_4 (dk_at dksX2_peakAt_3 9 rfl rfl)
theorem dX2_peakAt_80 : decode cX2_peakAt 80 = .ok (.goto 4, 3) := dk_167 0 4 (dk_at dksX2_peakAt_3 10 rfl rfl)
theorem dX2_peakAt_83 : decode cX2_peakAt 83 = .ok (.iconst 0, 1) := dk_3 (dk_at dksX2_peakAt_3 13 rfl rfl)
theorem dX2_peakAt_84 : decode cX2_peakAt 84 = .ok (.iadd, 1) := dk_96 (dk_at dksX2_peakAt_3 14 rfl rfl)
theorem dX2_peakAt_85 : decode cX2_peakAt 85 = .ok (.istore_n 3, 1) := dk_62 (dk_at dksX2_peakAt_3 15 rfl rfl)
theorem dX2_peakAt_86 : decode cX2_peakAt 86 = .ok (.iinc 4 1, 3) := dk_132 4 1 (dk_at dksX2_peakAt_3 16 rfl rfl)
theorem dX2_peakAt_89 : decode cX2_peakAt 89 = .ok (.goto (-45), 3) := dk_167 255 211 (dk_at dksX2_peakAt_3 19 rfl rfl)
theorem dX2_peakAt_92 : decode cX2_peakAt 92 = .ok (.iload_n 3, 1) := dk_29 (dk_at dksX2_peakAt_3 22 rfl rfl)
theorem dX2_peakAt_93 : decode cX2_peakAt 93 = .ok (.iload_n 1, 1) := dk_27 (dk_at dksX2_peakAt_3 23 rfl rfl)
theorem dX2_peakAt_94 : decode cX2_peakAt 94 = .ok (.if_icmp .ne 5, 3) := dk_160 0 5 (dk_at dksX2_peakAt_4 0 rfl rfl)
theorem dX2_peakAt_97 : decode cX2_peakAt 97 = .ok (.iload_n 2, 1) := dk_28 (dk_at dksX2_peakAt_4 3 rfl rfl)
theorem dX2_peakAt_98 : decode cX2_peakAt 98 = .ok (.ireturn, 1) := dk_172 (dk_at dksX2_peakAt_4 4 rfl rfl)
theorem dX2_peakAt_99 : decode cX2_peakAt 99 = .ok (.iinc 2 1, 3) := dk_132 2 1 (dk_at dksX2_peakAt_4 5 rfl rfl)
theorem dX2_peakAt_102 : decode cX2_peakAt 102 = .ok (.goto (-82), 3) := dk_167 255 174 (dk_at dksX2_peakAt_4 8 rfl rfl)
theorem dX2_peakAt_105 : decode cX2_peakAt 105 = .ok (.aload_n 0, 1) := dk_42 (dk_at dksX2_peakAt_4 11 rfl rfl)
theorem dX2_peakAt_106 : decode cX2_peakAt 106 = .ok (.iconst 2, 1) := dk_5 (dk_at dksX2_peakAt_4 12 rfl rfl)
theorem dX2_peakAt_107 : decode cX2_peakAt 107 = .ok (.invokevirtual 227, 3) := dk_182 0 227 (dk_at dksX2_peakAt_4 13 rfl rfl)
theorem dX2_peakAt_110 : decode cX2_peakAt 110 = .ok (.ireturn, 1) := dk_172 (dk_at dksX2_peakAt_4 16 rfl rfl)
abbrev cX2_isGreater : ByteArray := prog_15_method_95_code
def yX2_isGreater : MethodName := ⟨RX2, "isGreater", "(II)Z"⟩
def dkwX2_isGreater_1 : List UInt8 := [180, 0, 54, 28, 47, 148, 154, 0, 12, 27, 28, 162, 0, 7, 4, 167, 0, 4, 3, 172]
abbrev dktX2_isGreater_1 : List UInt8 := dkwX2_isGreater_1 ++ []
def dkwX2_isGreater_0 : List UInt8 := [42, 180, 0, 54, 27, 47, 42, 180, 0, 54, 28, 47, 148, 157, 0, 24, 42, 180, 0, 54, 27, 47, 42]
abbrev dktX2_isGreater_0 : List UInt8 := dkwX2_isGreater_0 ++ dktX2_isGreater_1
theorem dksX2_isGreater_0 : cX2_isGreater.data.toList.drop 0 = dktX2_isGreater_0 := by decide +kernel
theorem dksX2_isGreater_1 : cX2_isGreater.data.toList.drop 23 = dktX2_isGreater_1 := dk_seg dksX2_isGreater_0 23 rfl rfl
theorem dX2_isGreater_0 : decode cX2_isGreater 0 = .ok (.aload_n 0, 1) := dk_42 (dk_at dksX2_isGreater_0 0 rfl rfl)
theorem dX2_isGreater_1 : decode cX2_isGreater 1 = .ok (.getfield 54, 3) := dk_180 0 54 (dk_at dksX2_isGreater_0 1 rfl rfl)
theorem dX2_isGreater_4 : decode cX2_isGreater 4 = .ok (.iload_n 1, 1) := dk_27 (dk_at dksX2_isGreater_0 4 rfl rfl)
theorem dX2_isGreater_5 : decode cX2_isGreater 5 = .ok (.laload, 1) := dk_47 (dk_at dksX2_isGreater_0 5 rfl rfl)
theorem dX2_isGreater_6 : decode cX2_isGreater 6 = .ok (.aload_n 0, 1) := dk_42 (dk_at dksX2_isGreater_0 6 rfl rfl)
theorem dX2_isGreater_7 : decode cX2_isGreater 7 = .ok (.getfield 54, 3) := dk_180 0 54 (dk_at dksX2_isGreater_0 7 rfl rfl)
theorem dX2_isGreater_10 : decode cX2_isGreater 10 = .ok (.iload_n 2, 1) := dk_28 (dk_at dksX2_isGreater_0 10 rfl rfl)
theorem dX2_isGreater_11 : decode cX2_isGreater 11 = .ok (.laload, 1) := dk_47 (dk_at dksX2_isGreater_0 11 rfl rfl)
theorem dX2_isGreater_12 : decode cX2_isGreater 12 = .ok (.lcmp, 1) := dk_148 (dk_at dksX2_isGreater_0 12 rfl rfl)
theorem dX2_isGreater_13 : decode cX2_isGreater 13 = .ok (.ifCond .gt 24, 3) := dk_157 0 24 (dk_at dksX2_isGreater_0 13 rfl rfl)
theorem dX2_isGreater_16 : decode cX2_isGreater 16 = .ok (.aload_n 0, 1) := dk_42 (dk_at dksX2_isGreater_0 16 rfl rfl)
theorem dX2_isGreater_17 : decode cX2_isGreater 17 = .ok (.getfield 54, 3) := dk_180 0 54 (dk_at dksX2_isGreater_0 17 rfl rfl)
theorem dX2_isGreater_20 : decode cX2_isGreater 20 = .ok (.iload_n 1, 1) := dk_27 (dk_at dksX2_isGreater_0 20 rfl rfl)
theorem dX2_isGreater_21 : decode cX2_isGreater 21 = .ok (.laload, 1) := dk_47 (dk_at dksX2_isGreater_0 21 rfl rfl)
theorem dX2_isGreater_22 : decode cX2_isGreater 22 = .ok (.aload_n 0, 1) := dk_42 (dk_at dksX2_isGreater_0 22 rfl rfl)
theorem dX2_isGreater_23 : decode cX2_isGreater 23 = .ok (.getfield 54, 3) := dk_180 0 54 (dk_at dksX2_isGreater_1 0 rfl rfl)
theorem dX2_isGreater_26 : decode cX2_isGreater 26 = .ok (.iload_n 2, 1) := dk_28 (dk_at dksX2_isGreater_1 3 rfl rfl)
theorem dX2_isGreater_27 : decode cX2_isGreater 27 = .ok (.laload, 1) := dk_47 (dk_at dksX2_isGreater_1 4 rfl rfl)
theorem dX2_isGreater_28 : decode cX2_isGreater 28 = .ok (.lcmp, 1) := dk_148 (dk_at dksX2_isGreater_1 5 rfl rfl)
theorem dX2_isGreater_29 : decode cX2_isGreater 29 = .ok (.ifCond .ne 12, 3) := dk_154 0 12 (dk_at dksX2_isGreater_1 6 rfl rfl)
theorem dX2_isGreater_32 : decode cX2_isGreater 32 = .ok (.iload_n 1, 1) := dk_27 (dk_at dksX2_isGreater_1 9 rfl rfl)
theorem dX2_isGreater_33 : decode cX2_isGreater 33 = .ok (.iload_n 2, 1) := dk_28 (dk_at dksX2_isGreater_1 10 rfl rfl)
theorem dX2_isGreater_34 : decode cX2_isGreater 34 = .ok (.if_icmp .ge 7, 3) := dk_162 0 7 (dk_at dksX2_isGreater_1 11 rfl rfl)
theorem dX2_isGreater_37 : decode cX2_isGreater 37 = .ok (.iconst 1, 1) := dk_4 (dk_at dksX2_isGreater_1 14 rfl rfl)
theorem dX2_isGreater_38 : decode cX2_isGreater 38 = .ok (.goto 4, 3) := dk_167 0 4 (dk_at dksX2_isGreater_1 15 rfl rfl)
theorem dX2_isGreater_41 : decode cX2_isGreater 41 = .ok (.iconst 0, 1) := dk_3 (dk_at dksX2_isGreater_1 18 rfl rfl)
theorem dX2_isGreater_42 : decode cX2_isGreater 42 = .ok (.ireturn, 1) := dk_172 (dk_at dksX2_isGreater_1 19 rfl rfl)
abbrev cX2_isPeak : ByteArray := prog_15_method_97_code
def yX2_isPeak : MethodName := ⟨RX2, "isPeak", "(I)Z"⟩
def dkwX2_isPeak_1 : List UInt8 := [182, 1, 114, 172]
abbrev dktX2_isPeak_1 : List UInt8 := dkwX2_isPeak_1 ++ []
def dkwX2_isPeak_0 : List UInt8 := [42, 42, 27, 182, 1, 88, 182, 1, 84, 154, 0, 5, 3, 172, 42, 42, 180, 0, 23, 182, 1, 75, 42, 27]
abbrev dktX2_isPeak_0 : List UInt8 := dkwX2_isPeak_0 ++ dktX2_isPeak_1
theorem dksX2_isPeak_0 : cX2_isPeak.data.toList.drop 0 = dktX2_isPeak_0 := by decide +kernel
theorem dksX2_isPeak_1 : cX2_isPeak.data.toList.drop 24 = dktX2_isPeak_1 := dk_seg dksX2_isPeak_0 24 rfl rfl
theorem dX2_isPeak_0 : decode cX2_isPeak 0 = .ok (.aload_n 0, 1) := dk_42 (dk_at dksX2_isPeak_0 0 rfl rfl)
theorem dX2_isPeak_1 : decode cX2_isPeak 1 = .ok (.aload_n 0, 1) := dk_42 (dk_at dksX2_isPeak_0 1 rfl rfl)
theorem dX2_isPeak_2 : decode cX2_isPeak 2 = .ok (.iload_n 1, 1) := dk_27 (dk_at dksX2_isPeak_0 2 rfl rfl)
theorem dX2_isPeak_3 : decode cX2_isPeak 3 = .ok (.invokevirtual 344, 3) := dk_182 1 88 (dk_at dksX2_isPeak_0 3 rfl rfl)
theorem dX2_isPeak_6 : decode cX2_isPeak 6 = .ok (.invokevirtual 340, 3) := dk_182 1 84 (dk_at dksX2_isPeak_0 6 rfl rfl)
theorem dX2_isPeak_9 : decode cX2_isPeak 9 = .ok (.ifCond .ne 5, 3) := dk_154 0 5 (dk_at dksX2_isPeak_0 9 rfl rfl)
theorem dX2_isPeak_12 : decode cX2_isPeak 12 = .ok (.iconst 0, 1) := dk_3 (dk_at dksX2_isPeak_0 12 rfl rfl)
theorem dX2_isPeak_13 : decode cX2_isPeak 13 = .ok (.ireturn, 1) := dk_172 (dk_at dksX2_isPeak_0 13 rfl rfl)
theorem dX2_isPeak_14 : decode cX2_isPeak 14 = .ok (.aload_n 0, 1) := dk_42 (dk_at dksX2_isPeak_0 14 rfl rfl)
theorem dX2_isPeak_15 : decode cX2_isPeak 15 = .ok (.aload_n 0, 1) := dk_42 (dk_at dksX2_isPeak_0 15 rfl rfl)
theorem dX2_isPeak_16 : decode cX2_isPeak 16 = .ok (.getfield 23, 3) := dk_180 0 23 (dk_at dksX2_isPeak_0 16 rfl rfl)
theorem dX2_isPeak_19 : decode cX2_isPeak 19 = .ok (.invokevirtual 331, 3) := dk_182 1 75 (dk_at dksX2_isPeak_0 19 rfl rfl)
theorem dX2_isPeak_22 : decode cX2_isPeak 22 = .ok (.aload_n 0, 1) := dk_42 (dk_at dksX2_isPeak_0 22 rfl rfl)
theorem dX2_isPeak_23 : decode cX2_isPeak 23 = .ok (.iload_n 1, 1) := dk_27 (dk_at dksX2_isPeak_0 23 rfl rfl)
theorem dX2_isPeak_24 : decode cX2_isPeak 24 = .ok (.invokevirtual 370, 3) := dk_182 1 114 (dk_at dksX2_isPeak_1 0 rfl rfl)
theorem dX2_isPeak_27 : decode cX2_isPeak 27 = .ok (.ireturn, 1) := dk_172 (dk_at dksX2_isPeak_1 3 rfl rfl)
abbrev cX2_contrast : ByteArray := prog_15_method_98_code
def yX2_contrast : MethodName := ⟨RX2, "contrast", "()F"⟩
def dkwX2_contrast_3 : List UInt8 := [180, 0, 54, 27, 47, 137, 32, 137, 110, 174]
abbrev dktX2_contrast_3 : List UInt8 := dkwX2_contrast_3 ++ []
def dkwX2_contrast_2 : List UInt8 := [21, 4, 47, 184, 1, 120, 65, 132, 4, 1, 167, 255, 222, 32, 9, 148, 154, 0, 7, 11, 167, 0, 13, 42]
abbrev dktX2_contrast_2 : List UInt8 := dkwX2_contrast_2 ++ dktX2_contrast_3
def dkwX2_contrast_1 : List UInt8 := [21, 4, 42, 182, 0, 237, 162, 0, 31, 21, 4, 27, 160, 0, 7, 32, 167, 0, 14, 32, 42, 180, 0, 54]
abbrev dktX2_contrast_1 : List UInt8 := dkwX2_contrast_1 ++ dktX2_contrast_2
def dkwX2_contrast_0 : List UInt8 := [42, 4, 182, 1, 84, 154, 0, 5, 11, 174, 42, 42, 180, 0, 23, 182, 1, 111, 60, 9, 65, 3, 54, 4]
abbrev dktX2_contrast_0 : List UInt8 := dkwX2_contrast_0 ++ dktX2_contrast_1
theorem dksX2_contrast_0 : cX2_contrast.data.toList.drop 0 = dktX2_contrast_0 := by decide +kernel
theorem dksX2_contrast_1 : cX2_contrast.data.toList.drop 24 = dktX2_contrast_1 := dk_seg dksX2_contrast_0 24 rfl rfl
theorem dksX2_contrast_2 : cX2_contrast.data.toList.drop 48 = dktX2_contrast_2 := dk_seg dksX2_contrast_1 24 rfl rfl
theorem dksX2_contrast_3 : cX2_contrast.data.toList.drop 72 = dktX2_contrast_3 := dk_seg dksX2_contrast_2 24 rfl rfl
theorem dX2_contrast_0 : decode cX2_contrast 0 = .ok (.aload_n 0, 1) := dk_42 (dk_at dksX2_contrast_0 0 rfl rfl)
theorem dX2_contrast_1 : decode cX2_contrast 1 = .ok (.iconst 1, 1) := dk_4 (dk_at dksX2_contrast_0 1 rfl rfl)
theorem dX2_contrast_2 : decode cX2_contrast 2 = .ok (.invokevirtual 340, 3) := dk_182 1 84 (dk_at dksX2_contrast_0 2 rfl rfl)
theorem dX2_contrast_5 : decode cX2_contrast 5 = .ok (.ifCond .ne 5, 3) := dk_154 0 5 (dk_at dksX2_contrast_0 5 rfl rfl)
theorem dX2_contrast_8 : decode cX2_contrast 8 = .ok (.fconst 0, 1) := dk_11 (dk_at dksX2_contrast_0 8 rfl rfl)
theorem dX2_contrast_9 : decode cX2_contrast 9 = .ok (.freturn, 1) := dk_174 (dk_at dksX2_contrast_0 9 rfl rfl)
theorem dX2_contrast_10 : decode cX2_contrast 10 = .ok (.aload_n 0, 1) := dk_42 (dk_at dksX2_contrast_0 10 rfl rfl)
theorem dX2_contrast_11 : decode cX2_contrast 11 = .ok (.aload_n 0, 1) := dk_42 (dk_at dksX2_contrast_0 11 rfl rfl)
theorem dX2_contrast_12 : decode cX2_contrast 12 = .ok (.getfield 23, 3) := dk_180 0 23 (dk_at dksX2_contrast_0 12 rfl rfl)
theorem dX2_contrast_15 : decode cX2_contrast 15 = .ok (.invokevirtual 367, 3) := dk_182 1 111 (dk_at dksX2_contrast_0 15 rfl rfl)
theorem dX2_contrast_18 : decode cX2_contrast 18 = .ok (.istore_n 1, 1) := dk_60 (dk_at dksX2_contrast_0 18 rfl rfl)
theorem dX2_contrast_19 : decode cX2_contrast 19 = .ok (.lconst 0, 1) := dk_9 (dk_at dksX2_contrast_0 19 rfl rfl)
theorem dX2_contrast_20 : decode cX2_contrast 20 = .ok (.lstore_n 2, 1) := dk_65 (dk_at dksX2_contrast_0 20 rfl rfl)
theorem dX2_contrast_21 : decode cX2_contrast 21 = .ok (.iconst 0, 1) := dk_3 (dk_at dksX2_contrast_0 21 rfl rfl)
theorem dX2_contrast_22 : decode cX2_contrast 22 = .ok (.istore 4, 2) := dk_54 4 (dk_at dksX2_contrast_0 22 rfl rfl)
theorem dX2_contrast_24 : decode cX2_contrast 24 = .ok (.iload 4, 2) := dk_21 4 (dk_at dksX2_contrast_1 0 rfl rfl)
theorem dX2_contrast_26 : decode cX2_contrast 26 = .ok (.aload_n 0, 1) := dk_42 (dk_at dksX2_contrast_1 2 rfl rfl)
theorem dX2_contrast_27 : decode cX2_contrast 27 = .ok (.invokevirtual 237, 3) := dk_182 0 237 (dk_at dksX2_contrast_1 3 rfl rfl)
theorem dX2_contrast_30 : decode cX2_contrast 30 = .ok (.if_icmp .ge 31, 3) := dk_162 0 31 (dk_at dksX2_contrast_1 6 rfl rfl)
theorem dX2_contrast_33 : decode cX2_contrast 33 = .ok (.iload 4, 2) := dk_21 4 (dk_at dksX2_contrast_1 9 rfl rfl)
theorem dX2_contrast_35 : decode cX2_contrast 35 = .ok (.iload_n 1, 1) := dk_27 (dk_at dksX2_contrast_1 11 rfl rfl)
theorem dX2_contrast_36 : decode cX2_contrast 36 = .ok (.if_icmp .ne 7, 3) := dk_160 0 7 (dk_at dksX2_contrast_1 12 rfl rfl)
theorem dX2_contrast_39 : decode cX2_contrast 39 = .ok (.lload_n 2, 1) := dk_32 (dk_at dksX2_contrast_1 15 rfl rfl)
theorem dX2_contrast_40 : decode cX2_contrast 40 = .ok (.goto 14, 3) := dk_167 0 14 (dk_at dksX2_contrast_1 16 rfl rfl)
theorem dX2_contrast_43 : decode cX2_contrast 43 = .ok (.lload_n 2, 1) := dk_32 (dk_at dksX2_contrast_1 19 rfl rfl)
theorem dX2_contrast_44 : decode cX2_contrast 44 = .ok (.aload_n 0, 1) := dk_42 (dk_at dksX2_contrast_1 20 rfl rfl)
theorem dX2_contrast_45 : decode cX2_contrast 45 = .ok (.getfield 54, 3) := dk_180 0 54 (dk_at dksX2_contrast_1 21 rfl rfl)
theorem dX2_contrast_48 : decode cX2_contrast 48 = .ok (.iload 4, 2) := dk_21 4 (dk_at dksX2_contrast_2 0 rfl rfl)
theorem dX2_contrast_50 : decode cX2_contrast 50 = .ok (.laload, 1) := dk_47 (dk_at dksX2_contrast_2 2 rfl rfl)
theorem dX2_contrast_51 : decode cX2_contrast 51 = .ok (.invokestatic 376, 3) := dk_184 1 120 (dk_at dksX2_contrast_2 3 rfl rfl)
theorem dX2_contrast_54 : decode cX2_contrast 54 = .ok (.lstore_n 2, 1) := dk_65 (dk_at dksX2_contrast_2 6 rfl rfl)
theorem dX2_contrast_55 : decode cX2_contrast 55 = .ok (.iinc 4 1, 3) := dk_132 4 1 (dk_at dksX2_contrast_2 7 rfl rfl)
theorem dX2_contrast_58 : decode cX2_contrast 58 = .ok (.goto (-34), 3) := dk_167 255 222 (dk_at dksX2_contrast_2 10 rfl rfl)
theorem dX2_contrast_61 : decode cX2_contrast 61 = .ok (.lload_n 2, 1) := dk_32 (dk_at dksX2_contrast_2 13 rfl rfl)
theorem dX2_contrast_62 : decode cX2_contrast 62 = .ok (.lconst 0, 1) := dk_9 (dk_at dksX2_contrast_2 14 rfl rfl)
theorem dX2_contrast_63 : decode cX2_contrast 63 = .ok (.lcmp, 1) := dk_148 (dk_at dksX2_contrast_2 15 rfl rfl)
theorem dX2_contrast_64 : decode cX2_contrast 64 = .ok (.ifCond .ne 7, 3) := dk_154 0 7 (dk_at dksX2_contrast_2 16 rfl rfl)
theorem dX2_contrast_67 : decode cX2_contrast 67 = .ok (.fconst 0, 1) := dk_11 (dk_at dksX2_contrast_2 19 rfl rfl)
theorem dX2_contrast_68 : decode cX2_contrast 68 = .ok (.goto 13, 3) := dk_167 0 13 (dk_at dksX2_contrast_2 20 rfl rfl)
theorem dX2_contrast_71 : decode cX2_contrast 71 = .ok (.aload_n 0, 1) := dk_42 (dk_at dksX2_contrast_2 23 rfl rfl)
theorem dX2_contrast_72 : decode cX2_contrast 72 = .ok (.getfield 54, 3) := dk_180 0 54 (dk_at dksX2_contrast_3 0 rfl rfl)
theorem dX2_contrast_75 : decode cX2_contrast 75 = .ok (.iload_n 1, 1) := dk_27 (dk_at dksX2_contrast_3 3 rfl rfl)
theorem dX2_contrast_76 : decode cX2_contrast 76 = .ok (.laload, 1) := dk_47 (dk_at dksX2_contrast_3 4 rfl rfl)
theorem dX2_contrast_77 : decode cX2_contrast 77 = .ok (.l2f, 1) := dk_137 (dk_at dksX2_contrast_3 5 rfl rfl)
theorem dX2_contrast_78 : decode cX2_contrast 78 = .ok (.lload_n 2, 1) := dk_32 (dk_at dksX2_contrast_3 6 rfl rfl)
theorem dX2_contrast_79 : decode cX2_contrast 79 = .ok (.l2f, 1) := dk_137 (dk_at dksX2_contrast_3 7 rfl rfl)
theorem dX2_contrast_80 : decode cX2_contrast 80 = .ok (.fdiv, 1) := dk_110 (dk_at dksX2_contrast_3 8 rfl rfl)
theorem dX2_contrast_81 : decode cX2_contrast 81 = .ok (.freturn, 1) := dk_174 (dk_at dksX2_contrast_3 9 rfl rfl)
abbrev cX2_alias : ByteArray := prog_15_method_101_code
def yX2_alias : MethodName := ⟨RX2, "alias", "(III)I"⟩
def dkwX2_alias_2 : List UInt8 := [167, 0, 8, 42, 6, 182, 0, 227, 172]
abbrev dktX2_alias_2 : List UInt8 := dkwX2_alias_2 ++ []
def dkwX2_alias_1 : List UInt8 := [182, 1, 84, 154, 0, 5, 3, 172, 29, 184, 1, 126, 153, 0, 13, 42, 27, 28, 29, 182, 1, 129]
abbrev dktX2_alias_1 : List UInt8 := dkwX2_alias_1 ++ dktX2_alias_2
def dkwX2_alias_0 : List UInt8 := [42, 42, 27, 182, 1, 88, 153, 0, 15, 42, 28, 182, 1, 88, 153, 0, 7, 4, 167, 0, 4, 3]
abbrev dktX2_alias_0 : List UInt8 := dkwX2_alias_0 ++ dktX2_alias_1
theorem dksX2_alias_0 : cX2_alias.data.toList.drop 0 = dktX2_alias_0 := by decide +kernel
theorem dksX2_alias_1 : cX2_alias.data.toList.drop 22 = dktX2_alias_1 := dk_seg dksX2_alias_0 22 rfl rfl
theorem dksX2_alias_2 : cX2_alias.data.toList.drop 44 = dktX2_alias_2 := dk_seg dksX2_alias_1 22 rfl rfl
theorem dX2_alias_0 : decode cX2_alias 0 = .ok (.aload_n 0, 1) := dk_42 (dk_at dksX2_alias_0 0 rfl rfl)
theorem dX2_alias_1 : decode cX2_alias 1 = .ok (.aload_n 0, 1) := dk_42 (dk_at dksX2_alias_0 1 rfl rfl)
theorem dX2_alias_2 : decode cX2_alias 2 = .ok (.iload_n 1, 1) := dk_27 (dk_at dksX2_alias_0 2 rfl rfl)
theorem dX2_alias_3 : decode cX2_alias 3 = .ok (.invokevirtual 344, 3) := dk_182 1 88 (dk_at dksX2_alias_0 3 rfl rfl)
theorem dX2_alias_6 : decode cX2_alias 6 = .ok (.ifCond .eq 15, 3) := dk_153 0 15 (dk_at dksX2_alias_0 6 rfl rfl)
theorem dX2_alias_9 : decode cX2_alias 9 = .ok (.aload_n 0, 1) := dk_42 (dk_at dksX2_alias_0 9 rfl rfl)
theorem dX2_alias_10 : decode cX2_alias 10 = .ok (.iload_n 2, 1) := dk_28 (dk_at dksX2_alias_0 10 rfl rfl)
theorem dX2_alias_11 : decode cX2_alias 11 = .ok (.invokevirtual 344, 3) := dk_182 1 88 (dk_at dksX2_alias_0 11 rfl rfl)
theorem dX2_alias_14 : decode cX2_alias 14 = .ok (.ifCond .eq 7, 3) := dk_153 0 7 (dk_at dksX2_alias_0 14 rfl rfl)
theorem dX2_alias_17 : decode cX2_alias 17 = .ok (.iconst 1, 1) := dk_4 (dk_at dksX2_alias_0 17 rfl rfl)
theorem dX2_alias_18 : decode cX2_alias 18 = .ok (.goto 4, 3) := dk_167 0 4 (dk_at dksX2_alias_0 18 rfl rfl)
theorem dX2_alias_21 : decode cX2_alias 21 = .ok (.iconst 0, 1) := dk_3 (dk_at dksX2_alias_0 21 rfl rfl)
theorem dX2_alias_22 : decode cX2_alias 22 = .ok (.invokevirtual 340, 3) := dk_182 1 84 (dk_at dksX2_alias_1 0 rfl rfl)
theorem dX2_alias_25 : decode cX2_alias 25 = .ok (.ifCond .ne 5, 3) := dk_154 0 5 (dk_at dksX2_alias_1 3 rfl rfl)
theorem dX2_alias_28 : decode cX2_alias 28 = .ok (.iconst 0, 1) := dk_3 (dk_at dksX2_alias_1 6 rfl rfl)
theorem dX2_alias_29 : decode cX2_alias 29 = .ok (.ireturn, 1) := dk_172 (dk_at dksX2_alias_1 7 rfl rfl)
theorem dX2_alias_30 : decode cX2_alias 30 = .ok (.iload_n 3, 1) := dk_29 (dk_at dksX2_alias_1 8 rfl rfl)
theorem dX2_alias_31 : decode cX2_alias 31 = .ok (.invokestatic 382, 3) := dk_184 1 126 (dk_at dksX2_alias_1 9 rfl rfl)
theorem dX2_alias_34 : decode cX2_alias 34 = .ok (.ifCond .eq 13, 3) := dk_153 0 13 (dk_at dksX2_alias_1 12 rfl rfl)
theorem dX2_alias_37 : decode cX2_alias 37 = .ok (.aload_n 0, 1) := dk_42 (dk_at dksX2_alias_1 15 rfl rfl)
theorem dX2_alias_38 : decode cX2_alias 38 = .ok (.iload_n 1, 1) := dk_27 (dk_at dksX2_alias_1 16 rfl rfl)
theorem dX2_alias_39 : decode cX2_alias 39 = .ok (.iload_n 2, 1) := dk_28 (dk_at dksX2_alias_1 17 rfl rfl)
theorem dX2_alias_40 : decode cX2_alias 40 = .ok (.iload_n 3, 1) := dk_29 (dk_at dksX2_alias_1 18 rfl rfl)
theorem dX2_alias_41 : decode cX2_alias 41 = .ok (.invokevirtual 385, 3) := dk_182 1 129 (dk_at dksX2_alias_1 19 rfl rfl)
theorem dX2_alias_44 : decode cX2_alias 44 = .ok (.goto 8, 3) := dk_167 0 8 (dk_at dksX2_alias_2 0 rfl rfl)
theorem dX2_alias_47 : decode cX2_alias 47 = .ok (.aload_n 0, 1) := dk_42 (dk_at dksX2_alias_2 3 rfl rfl)
theorem dX2_alias_48 : decode cX2_alias 48 = .ok (.iconst 3, 1) := dk_6 (dk_at dksX2_alias_2 4 rfl rfl)
theorem dX2_alias_49 : decode cX2_alias 49 = .ok (.invokevirtual 227, 3) := dk_182 0 227 (dk_at dksX2_alias_2 5 rfl rfl)
theorem dX2_alias_52 : decode cX2_alias 52 = .ok (.ireturn, 1) := dk_172 (dk_at dksX2_alias_2 8 rfl rfl)
abbrev cX2_isPeriod : ByteArray := prog_15_method_68_code
def yX2_isPeriod : MethodName := ⟨RX2, "isPeriod", "(I)Z"⟩
def dkwX2_isPeriod_0 : List UInt8 := [26, 5, 16, 99, 184, 0, 96, 172]
abbrev dktX2_isPeriod_0 : List UInt8 := dkwX2_isPeriod_0 ++ []
theorem dksX2_isPeriod_0 : cX2_isPeriod.data.toList.drop 0 = dktX2_isPeriod_0 := by decide +kernel
theorem dX2_isPeriod_0 : decode cX2_isPeriod 0 = .ok (.iload_n 0, 1) := dk_26 (dk_at dksX2_isPeriod_0 0 rfl rfl)
theorem dX2_isPeriod_1 : decode cX2_isPeriod 1 = .ok (.iconst 2, 1) := dk_5 (dk_at dksX2_isPeriod_0 1 rfl rfl)
theorem dX2_isPeriod_2 : decode cX2_isPeriod 2 = .ok (.bipush 99, 2) := dk_16 99 (dk_at dksX2_isPeriod_0 2 rfl rfl)
theorem dX2_isPeriod_4 : decode cX2_isPeriod 4 = .ok (.invokestatic 96, 3) := dk_184 0 96 (dk_at dksX2_isPeriod_0 4 rfl rfl)
theorem dX2_isPeriod_7 : decode cX2_isPeriod 7 = .ok (.ireturn, 1) := dk_172 (dk_at dksX2_isPeriod_0 7 rfl rfl)
abbrev cX2_confusion : ByteArray := prog_15_method_99_code
def yX2_confusion : MethodName := ⟨RX2, "confusion", "(III)I"⟩
def dkwX2_confusion_5 : List UInt8 := [167, 255, 147, 21, 4, 172]
abbrev dktX2_confusion_5 : List UInt8 := dkwX2_confusion_5 ++ []
def dkwX2_confusion_4 : List UInt8 := [182, 1, 48, 153, 0, 13, 21, 4, 21, 6, 184, 1, 15, 167, 0, 5, 21, 4, 54, 4, 132, 5, 1]
abbrev dktX2_confusion_4 : List UInt8 := dkwX2_confusion_4 ++ dktX2_confusion_5
def dkwX2_confusion_3 : List UInt8 := [154, 0, 7, 4, 167, 0, 4, 3, 96, 54, 6, 132, 7, 1, 167, 255, 197, 42, 42, 180, 0, 23, 21, 5]
abbrev dktX2_confusion_3 : List UInt8 := dkwX2_confusion_3 ++ dktX2_confusion_4
def dkwX2_confusion_2 : List UInt8 := [153, 0, 29, 42, 27, 28, 21, 7, 182, 1, 123, 42, 27, 28, 21, 5, 182, 1, 123, 100, 29, 112]
abbrev dktX2_confusion_2 : List UInt8 := dkwX2_confusion_2 ++ dktX2_confusion_3
def dkwX2_confusion_1 : List UInt8 := [21, 7, 42, 180, 0, 17, 7, 46, 162, 0, 54, 21, 6, 42, 42, 180, 0, 23, 21, 7, 182, 1, 48]
abbrev dktX2_confusion_1 : List UInt8 := dkwX2_confusion_1 ++ dktX2_confusion_2
def dkwX2_confusion_0 : List UInt8 := [3, 54, 4, 3, 54, 5, 21, 5, 42, 180, 0, 17, 7, 46, 162, 0, 104, 3, 54, 6, 3, 54, 7]
abbrev dktX2_confusion_0 : List UInt8 := dkwX2_confusion_0 ++ dktX2_confusion_1
theorem dksX2_confusion_0 : cX2_confusion.data.toList.drop 0 = dktX2_confusion_0 := by decide +kernel
theorem dksX2_confusion_1 : cX2_confusion.data.toList.drop 23 = dktX2_confusion_1 := dk_seg dksX2_confusion_0 23 rfl rfl
theorem dksX2_confusion_2 : cX2_confusion.data.toList.drop 46 = dktX2_confusion_2 := dk_seg dksX2_confusion_1 23 rfl rfl
theorem dksX2_confusion_3 : cX2_confusion.data.toList.drop 68 = dktX2_confusion_3 := dk_seg dksX2_confusion_2 22 rfl rfl
theorem dksX2_confusion_4 : cX2_confusion.data.toList.drop 92 = dktX2_confusion_4 := dk_seg dksX2_confusion_3 24 rfl rfl
theorem dksX2_confusion_5 : cX2_confusion.data.toList.drop 115 = dktX2_confusion_5 := dk_seg dksX2_confusion_4 23 rfl rfl
theorem dX2_confusion_0 : decode cX2_confusion 0 = .ok (.iconst 0, 1) := dk_3 (dk_at dksX2_confusion_0 0 rfl rfl)
theorem dX2_confusion_1 : decode cX2_confusion 1 = .ok (.istore 4, 2) := dk_54 4 (dk_at dksX2_confusion_0 1 rfl rfl)
theorem dX2_confusion_3 : decode cX2_confusion 3 = .ok (.iconst 0, 1) := dk_3 (dk_at dksX2_confusion_0 3 rfl rfl)
theorem dX2_confusion_4 : decode cX2_confusion 4 = .ok (.istore 5, 2) := dk_54 5 (dk_at dksX2_confusion_0 4 rfl rfl)
theorem dX2_confusion_6 : decode cX2_confusion 6 = .ok (.iload 5, 2) := dk_21 5 (dk_at dksX2_confusion_0 6 rfl rfl)
theorem dX2_confusion_8 : decode cX2_confusion 8 = .ok (.aload_n 0, 1) := dk_42 (dk_at dksX2_confusion_0 8 rfl rfl)
theorem dX2_confusion_9 : decode cX2_confusion 9 = .ok (.getfield 17, 3) := dk_180 0 17 (dk_at dksX2_confusion_0 9 rfl rfl)
theorem dX2_confusion_12 : decode cX2_confusion 12 = .ok (.iconst 4, 1) := dk_7 (dk_at dksX2_confusion_0 12 rfl rfl)
theorem dX2_confusion_13 : decode cX2_confusion 13 = .ok (.iaload, 1) := dk_46 (dk_at dksX2_confusion_0 13 rfl rfl)
theorem dX2_confusion_14 : decode cX2_confusion 14 = .ok (.if_icmp .ge 104, 3) := dk_162 0 104 (dk_at dksX2_confusion_0 14 rfl rfl)
theorem dX2_confusion_17 : decode cX2_confusion 17 = .ok (.iconst 0, 1) := dk_3 (dk_at dksX2_confusion_0 17 rfl rfl)
theorem dX2_confusion_18 : decode cX2_confusion 18 = .ok (.istore 6, 2) := dk_54 6 (dk_at dksX2_confusion_0 18 rfl rfl)
theorem dX2_confusion_20 : decode cX2_confusion 20 = .ok (.iconst 0, 1) := dk_3 (dk_at dksX2_confusion_0 20 rfl rfl)
theorem dX2_confusion_21 : decode cX2_confusion 21 = .ok (.istore 7, 2) := dk_54 7 (dk_at dksX2_confusion_0 21 rfl rfl)
theorem dX2_confusion_23 : decode cX2_confusion 23 = .ok (.iload 7, 2) := dk_21 7 (dk_at dksX2_confusion_1 0 rfl rfl)
theorem dX2_confusion_25 : decode cX2_confusion 25 = .ok (.aload_n 0, 1) := dk_42 (dk_at dksX2_confusion_1 2 rfl rfl)
theorem dX2_confusion_26 : decode cX2_confusion 26 = .ok (.getfield 17, 3) := dk_180 0 17 (dk_at dksX2_confusion_1 3 rfl rfl)
theorem dX2_confusion_29 : decode cX2_confusion 29 = .ok (.iconst 4, 1) := dk_7 (dk_at dksX2_confusion_1 6 rfl rfl)
theorem dX2_confusion_30 : decode cX2_confusion 30 = .ok (.iaload, 1) := dk_46 (dk_at dksX2_confusion_1 7 rfl rfl)
theorem dX2_confusion_31 : decode cX2_confusion 31 = .ok (.if_icmp .ge 54, 3) := dk_162 0 54 (dk_at dksX2_confusion_1 8 rfl rfl)
theorem dX2_confusion_34 : decode cX2_confusion 34 = .ok (.iload 6, 2) := dk_21 6 (dk_at dksX2_confusion_1 11 rfl rfl)
theorem dX2_confusion_36 : decode cX2_confusion 36 = .ok (.aload_n 0, 1) := dk_42 (dk_at dksX2_confusion_1 13 rfl rfl)
theorem dX2_confusion_37 : decode cX2_confusion 37 = .ok (.aload_n 0, 1) := dk_42 (dk_at dksX2_confusion_1 14 rfl rfl)
theorem dX2_confusion_38 : decode cX2_confusion 38 = .ok (.getfield 23, 3) := dk_180 0 23 (dk_at dksX2_confusion_1 15 rfl rfl)
theorem dX2_confusion_41 : decode cX2_confusion 41 = .ok (.iload 7, 2) := dk_21 7 (dk_at dksX2_confusion_1 18 rfl rfl)
theorem dX2_confusion_43 : decode cX2_confusion 43 = .ok (.invokevirtual 304, 3) := dk_182 1 48 (dk_at dksX2_confusion_1 20 rfl rfl)
theorem dX2_confusion_46 : decode cX2_confusion 46 = .ok (.ifCond .eq 29, 3) := dk_153 0 29 (dk_at dksX2_confusion_2 0 rfl rfl)
theorem dX2_confusion_49 : decode cX2_confusion 49 = .ok (.aload_n 0, 1) := dk_42 (dk_at dksX2_confusion_2 3 rfl rfl)
theorem dX2_confusion_50 : decode cX2_confusion 50 = .ok (.iload_n 1, 1) := dk_27 (dk_at dksX2_confusion_2 4 rfl rfl)
theorem dX2_confusion_51 : decode cX2_confusion 51 = .ok (.iload_n 2, 1) := dk_28 (dk_at dksX2_confusion_2 5 rfl rfl)
theorem dX2_confusion_52 : decode cX2_confusion 52 = .ok (.iload 7, 2) := dk_21 7 (dk_at dksX2_confusion_2 6 rfl rfl)
theorem dX2_confusion_54 : decode cX2_confusion 54 = .ok (.invokevirtual 379, 3) := dk_182 1 123 (dk_at dksX2_confusion_2 8 rfl rfl)
theorem dX2_confusion_57 : decode cX2_confusion 57 = .ok (.aload_n 0, 1) := dk_42 (dk_at dksX2_confusion_2 11 rfl rfl)
theorem dX2_confusion_58 : decode cX2_confusion 58 = .ok (.iload_n 1, 1) := dk_27 (dk_at dksX2_confusion_2 12 rfl rfl)
theorem dX2_confusion_59 : decode cX2_confusion 59 = .ok (.iload_n 2, 1) := dk_28 (dk_at dksX2_confusion_2 13 rfl rfl)
theorem dX2_confusion_60 : decode cX2_confusion 60 = .ok (.iload 5, 2) := dk_21 5 (dk_at dksX2_confusion_2 14 rfl rfl)
theorem dX2_confusion_62 : decode cX2_confusion 62 = .ok (.invokevirtual 379, 3) := dk_182 1 123 (dk_at dksX2_confusion_2 16 rfl rfl)
theorem dX2_confusion_65 : decode cX2_confusion 65 = .ok (.isub, 1) := dk_100 (dk_at dksX2_confusion_2 19 rfl rfl)
theorem dX2_confusion_66 : decode cX2_confusion 66 = .ok (.iload_n 3, 1) := dk_29 (dk_at dksX2_confusion_2 20 rfl rfl)
theorem dX2_confusion_67 : decode cX2_confusion 67 = .ok (.irem, 1) := dk_112 (dk_at dksX2_confusion_2 21 rfl rfl)
theorem dX2_confusion_68 : decode cX2_confusion 68 = .ok (.ifCond .ne 7, 3) := dk_154 0 7 (dk_at dksX2_confusion_3 0 rfl rfl)
theorem dX2_confusion_71 : decode cX2_confusion 71 = .ok (.iconst 1, 1) := dk_4 (dk_at dksX2_confusion_3 3 rfl rfl)
theorem dX2_confusion_72 : decode cX2_confusion 72 = .ok (.goto 4, 3) := dk_167 0 4 (dk_at dksX2_confusion_3 4 rfl rfl)
theorem dX2_confusion_75 : decode cX2_confusion 75 = .ok (.iconst 0, 1) := dk_3 (dk_at dksX2_confusion_3 7 rfl rfl)
theorem dX2_confusion_76 : decode cX2_confusion 76 = .ok (.iadd, 1) := dk_96 (dk_at dksX2_confusion_3 8 rfl rfl)
theorem dX2_confusion_77 : decode cX2_confusion 77 = .ok (.istore 6, 2) := dk_54 6 (dk_at dksX2_confusion_3 9 rfl rfl)
theorem dX2_confusion_79 : decode cX2_confusion 79 = .ok (.iinc 7 1, 3) := dk_132 7 1 (dk_at dksX2_confusion_3 11 rfl rfl)
theorem dX2_confusion_82 : decode cX2_confusion 82 = .ok (.goto (-59), 3) := dk_167 255 197 (dk_at dksX2_confusion_3 14 rfl rfl)
theorem dX2_confusion_85 : decode cX2_confusion 85 = .ok (.aload_n 0, 1) := dk_42 (dk_at dksX2_confusion_3 17 rfl rfl)
theorem dX2_confusion_86 : decode cX2_confusion 86 = .ok (.aload_n 0, 1) := dk_42 (dk_at dksX2_confusion_3 18 rfl rfl)
theorem dX2_confusion_87 : decode cX2_confusion 87 = .ok (.getfield 23, 3) := dk_180 0 23 (dk_at dksX2_confusion_3 19 rfl rfl)
theorem dX2_confusion_90 : decode cX2_confusion 90 = .ok (.iload 5, 2) := dk_21 5 (dk_at dksX2_confusion_3 22 rfl rfl)
theorem dX2_confusion_92 : decode cX2_confusion 92 = .ok (.invokevirtual 304, 3) := dk_182 1 48 (dk_at dksX2_confusion_4 0 rfl rfl)
theorem dX2_confusion_95 : decode cX2_confusion 95 = .ok (.ifCond .eq 13, 3) := dk_153 0 13 (dk_at dksX2_confusion_4 3 rfl rfl)
theorem dX2_confusion_98 : decode cX2_confusion 98 = .ok (.iload 4, 2) := dk_21 4 (dk_at dksX2_confusion_4 6 rfl rfl)
theorem dX2_confusion_100 : decode cX2_confusion 100 = .ok (.iload 6, 2) := dk_21 6 (dk_at dksX2_confusion_4 8 rfl rfl)
theorem dX2_confusion_102 : decode cX2_confusion 102 = .ok (.invokestatic 271, 3) := dk_184 1 15 (dk_at dksX2_confusion_4 10 rfl rfl)
theorem dX2_confusion_105 : decode cX2_confusion 105 = .ok (.goto 5, 3) := dk_167 0 5 (dk_at dksX2_confusion_4 13 rfl rfl)
theorem dX2_confusion_108 : decode cX2_confusion 108 = .ok (.iload 4, 2) := dk_21 4 (dk_at dksX2_confusion_4 16 rfl rfl)
theorem dX2_confusion_110 : decode cX2_confusion 110 = .ok (.istore 4, 2) := dk_54 4 (dk_at dksX2_confusion_4 18 rfl rfl)
theorem dX2_confusion_112 : decode cX2_confusion 112 = .ok (.iinc 5 1, 3) := dk_132 5 1 (dk_at dksX2_confusion_4 20 rfl rfl)
theorem dX2_confusion_115 : decode cX2_confusion 115 = .ok (.goto (-109), 3) := dk_167 255 147 (dk_at dksX2_confusion_5 0 rfl rfl)
theorem dX2_confusion_118 : decode cX2_confusion 118 = .ok (.iload 4, 2) := dk_21 4 (dk_at dksX2_confusion_5 3 rfl rfl)
theorem dX2_confusion_120 : decode cX2_confusion 120 = .ok (.ireturn, 1) := dk_172 (dk_at dksX2_confusion_5 5 rfl rfl)
abbrev cX2_shift : ByteArray := prog_15_method_100_code
def yX2_shift : MethodName := ⟨RX2, "shift", "(III)I"⟩
def dkwX2_shift_0 : List UInt8 := [42, 180, 0, 38, 16, 12, 27, 104, 29, 96, 46, 42, 180, 0, 38, 16, 12, 28, 104, 29, 96, 46, 100, 172]
abbrev dktX2_shift_0 : List UInt8 := dkwX2_shift_0 ++ []
theorem dksX2_shift_0 : cX2_shift.data.toList.drop 0 = dktX2_shift_0 := by decide +kernel
theorem dX2_shift_0 : decode cX2_shift 0 = .ok (.aload_n 0, 1) := dk_42 (dk_at dksX2_shift_0 0 rfl rfl)
theorem dX2_shift_1 : decode cX2_shift 1 = .ok (.getfield 38, 3) := dk_180 0 38 (dk_at dksX2_shift_0 1 rfl rfl)
theorem dX2_shift_4 : decode cX2_shift 4 = .ok (.bipush 12, 2) := dk_16 12 (dk_at dksX2_shift_0 4 rfl rfl)
theorem dX2_shift_6 : decode cX2_shift 6 = .ok (.iload_n 1, 1) := dk_27 (dk_at dksX2_shift_0 6 rfl rfl)
theorem dX2_shift_7 : decode cX2_shift 7 = .ok (.imul, 1) := dk_104 (dk_at dksX2_shift_0 7 rfl rfl)
theorem dX2_shift_8 : decode cX2_shift 8 = .ok (.iload_n 3, 1) := dk_29 (dk_at dksX2_shift_0 8 rfl rfl)
theorem dX2_shift_9 : decode cX2_shift 9 = .ok (.iadd, 1) := dk_96 (dk_at dksX2_shift_0 9 rfl rfl)
theorem dX2_shift_10 : decode cX2_shift 10 = .ok (.iaload, 1) := dk_46 (dk_at dksX2_shift_0 10 rfl rfl)
theorem dX2_shift_11 : decode cX2_shift 11 = .ok (.aload_n 0, 1) := dk_42 (dk_at dksX2_shift_0 11 rfl rfl)
theorem dX2_shift_12 : decode cX2_shift 12 = .ok (.getfield 38, 3) := dk_180 0 38 (dk_at dksX2_shift_0 12 rfl rfl)
theorem dX2_shift_15 : decode cX2_shift 15 = .ok (.bipush 12, 2) := dk_16 12 (dk_at dksX2_shift_0 15 rfl rfl)
theorem dX2_shift_17 : decode cX2_shift 17 = .ok (.iload_n 2, 1) := dk_28 (dk_at dksX2_shift_0 17 rfl rfl)
theorem dX2_shift_18 : decode cX2_shift 18 = .ok (.imul, 1) := dk_104 (dk_at dksX2_shift_0 18 rfl rfl)
theorem dX2_shift_19 : decode cX2_shift 19 = .ok (.iload_n 3, 1) := dk_29 (dk_at dksX2_shift_0 19 rfl rfl)
theorem dX2_shift_20 : decode cX2_shift 20 = .ok (.iadd, 1) := dk_96 (dk_at dksX2_shift_0 20 rfl rfl)
theorem dX2_shift_21 : decode cX2_shift 21 = .ok (.iaload, 1) := dk_46 (dk_at dksX2_shift_0 21 rfl rfl)
theorem dX2_shift_22 : decode cX2_shift 22 = .ok (.isub, 1) := dk_100 (dk_at dksX2_shift_0 22 rfl rfl)
theorem dX2_shift_23 : decode cX2_shift 23 = .ok (.ireturn, 1) := dk_172 (dk_at dksX2_shift_0 23 rfl rfl)
abbrev cX2_isAlias : ByteArray := prog_15_method_104_code
def yX2_isAlias : MethodName := ⟨RX2, "isAlias", "(III)Z"⟩
def dkwX2_isAlias_2 : List UInt8 := [42, 180, 0, 23, 182, 1, 111, 28, 29, 182, 1, 135, 153, 0, 7, 4, 167, 0, 4, 3, 172]
abbrev dktX2_isAlias_2 : List UInt8 := dkwX2_isAlias_2 ++ []
def dkwX2_isAlias_1 : List UInt8 := [184, 1, 132, 153, 0, 7, 3, 167, 0, 4, 6, 181, 0, 67, 42, 180, 0, 67, 154, 0, 25, 42, 27, 42]
abbrev dktX2_isAlias_1 : List UInt8 := dkwX2_isAlias_1 ++ dktX2_isAlias_2
def dkwX2_isAlias_0 : List UInt8 := [42, 42, 27, 182, 1, 88, 182, 1, 84, 154, 0, 5, 3, 172, 42, 28, 184, 1, 126, 153, 0, 14, 29]
abbrev dktX2_isAlias_0 : List UInt8 := dkwX2_isAlias_0 ++ dktX2_isAlias_1
theorem dksX2_isAlias_0 : cX2_isAlias.data.toList.drop 0 = dktX2_isAlias_0 := by decide +kernel
theorem dksX2_isAlias_1 : cX2_isAlias.data.toList.drop 23 = dktX2_isAlias_1 := dk_seg dksX2_isAlias_0 23 rfl rfl
theorem dksX2_isAlias_2 : cX2_isAlias.data.toList.drop 47 = dktX2_isAlias_2 := dk_seg dksX2_isAlias_1 24 rfl rfl
theorem dX2_isAlias_0 : decode cX2_isAlias 0 = .ok (.aload_n 0, 1) := dk_42 (dk_at dksX2_isAlias_0 0 rfl rfl)
theorem dX2_isAlias_1 : decode cX2_isAlias 1 = .ok (.aload_n 0, 1) := dk_42 (dk_at dksX2_isAlias_0 1 rfl rfl)
theorem dX2_isAlias_2 : decode cX2_isAlias 2 = .ok (.iload_n 1, 1) := dk_27 (dk_at dksX2_isAlias_0 2 rfl rfl)
theorem dX2_isAlias_3 : decode cX2_isAlias 3 = .ok (.invokevirtual 344, 3) := dk_182 1 88 (dk_at dksX2_isAlias_0 3 rfl rfl)
theorem dX2_isAlias_6 : decode cX2_isAlias 6 = .ok (.invokevirtual 340, 3) := dk_182 1 84 (dk_at dksX2_isAlias_0 6 rfl rfl)
theorem dX2_isAlias_9 : decode cX2_isAlias 9 = .ok (.ifCond .ne 5, 3) := dk_154 0 5 (dk_at dksX2_isAlias_0 9 rfl rfl)
theorem dX2_isAlias_12 : decode cX2_isAlias 12 = .ok (.iconst 0, 1) := dk_3 (dk_at dksX2_isAlias_0 12 rfl rfl)
theorem dX2_isAlias_13 : decode cX2_isAlias 13 = .ok (.ireturn, 1) := dk_172 (dk_at dksX2_isAlias_0 13 rfl rfl)
theorem dX2_isAlias_14 : decode cX2_isAlias 14 = .ok (.aload_n 0, 1) := dk_42 (dk_at dksX2_isAlias_0 14 rfl rfl)
theorem dX2_isAlias_15 : decode cX2_isAlias 15 = .ok (.iload_n 2, 1) := dk_28 (dk_at dksX2_isAlias_0 15 rfl rfl)
theorem dX2_isAlias_16 : decode cX2_isAlias 16 = .ok (.invokestatic 382, 3) := dk_184 1 126 (dk_at dksX2_isAlias_0 16 rfl rfl)
theorem dX2_isAlias_19 : decode cX2_isAlias 19 = .ok (.ifCond .eq 14, 3) := dk_153 0 14 (dk_at dksX2_isAlias_0 19 rfl rfl)
theorem dX2_isAlias_22 : decode cX2_isAlias 22 = .ok (.iload_n 3, 1) := dk_29 (dk_at dksX2_isAlias_0 22 rfl rfl)
theorem dX2_isAlias_23 : decode cX2_isAlias 23 = .ok (.invokestatic 388, 3) := dk_184 1 132 (dk_at dksX2_isAlias_1 0 rfl rfl)
theorem dX2_isAlias_26 : decode cX2_isAlias 26 = .ok (.ifCond .eq 7, 3) := dk_153 0 7 (dk_at dksX2_isAlias_1 3 rfl rfl)
theorem dX2_isAlias_29 : decode cX2_isAlias 29 = .ok (.iconst 0, 1) := dk_3 (dk_at dksX2_isAlias_1 6 rfl rfl)
theorem dX2_isAlias_30 : decode cX2_isAlias 30 = .ok (.goto 4, 3) := dk_167 0 4 (dk_at dksX2_isAlias_1 7 rfl rfl)
theorem dX2_isAlias_33 : decode cX2_isAlias 33 = .ok (.iconst 3, 1) := dk_6 (dk_at dksX2_isAlias_1 10 rfl rfl)
theorem dX2_isAlias_34 : decode cX2_isAlias 34 = .ok (.putfield 67, 3) := dk_181 0 67 (dk_at dksX2_isAlias_1 11 rfl rfl)
theorem dX2_isAlias_37 : decode cX2_isAlias 37 = .ok (.aload_n 0, 1) := dk_42 (dk_at dksX2_isAlias_1 14 rfl rfl)
theorem dX2_isAlias_38 : decode cX2_isAlias 38 = .ok (.getfield 67, 3) := dk_180 0 67 (dk_at dksX2_isAlias_1 15 rfl rfl)
theorem dX2_isAlias_41 : decode cX2_isAlias 41 = .ok (.ifCond .ne 25, 3) := dk_154 0 25 (dk_at dksX2_isAlias_1 18 rfl rfl)
theorem dX2_isAlias_44 : decode cX2_isAlias 44 = .ok (.aload_n 0, 1) := dk_42 (dk_at dksX2_isAlias_1 21 rfl rfl)
theorem dX2_isAlias_45 : decode cX2_isAlias 45 = .ok (.iload_n 1, 1) := dk_27 (dk_at dksX2_isAlias_1 22 rfl rfl)
theorem dX2_isAlias_46 : decode cX2_isAlias 46 = .ok (.aload_n 0, 1) := dk_42 (dk_at dksX2_isAlias_1 23 rfl rfl)
theorem dX2_isAlias_47 : decode cX2_isAlias 47 = .ok (.aload_n 0, 1) := dk_42 (dk_at dksX2_isAlias_2 0 rfl rfl)
theorem dX2_isAlias_48 : decode cX2_isAlias 48 = .ok (.getfield 23, 3) := dk_180 0 23 (dk_at dksX2_isAlias_2 1 rfl rfl)
theorem dX2_isAlias_51 : decode cX2_isAlias 51 = .ok (.invokevirtual 367, 3) := dk_182 1 111 (dk_at dksX2_isAlias_2 4 rfl rfl)
theorem dX2_isAlias_54 : decode cX2_isAlias 54 = .ok (.iload_n 2, 1) := dk_28 (dk_at dksX2_isAlias_2 7 rfl rfl)
theorem dX2_isAlias_55 : decode cX2_isAlias 55 = .ok (.iload_n 3, 1) := dk_29 (dk_at dksX2_isAlias_2 8 rfl rfl)
theorem dX2_isAlias_56 : decode cX2_isAlias 56 = .ok (.invokevirtual 391, 3) := dk_182 1 135 (dk_at dksX2_isAlias_2 9 rfl rfl)
theorem dX2_isAlias_59 : decode cX2_isAlias 59 = .ok (.ifCond .eq 7, 3) := dk_153 0 7 (dk_at dksX2_isAlias_2 12 rfl rfl)
theorem dX2_isAlias_62 : decode cX2_isAlias 62 = .ok (.iconst 1, 1) := dk_4 (dk_at dksX2_isAlias_2 15 rfl rfl)
theorem dX2_isAlias_63 : decode cX2_isAlias 63 = .ok (.goto 4, 3) := dk_167 0 4 (dk_at dksX2_isAlias_2 16 rfl rfl)
theorem dX2_isAlias_66 : decode cX2_isAlias 66 = .ok (.iconst 0, 1) := dk_3 (dk_at dksX2_isAlias_2 19 rfl rfl)
theorem dX2_isAlias_67 : decode cX2_isAlias 67 = .ok (.ireturn, 1) := dk_172 (dk_at dksX2_isAlias_2 20 rfl rfl)
abbrev cX2_isShare : ByteArray := prog_15_method_103_code
def yX2_isShare : MethodName := ⟨RX2, "isShare", "(I)Z"⟩
def dkwX2_isShare_0 : List UInt8 := [26, 4, 16, 100, 184, 0, 96, 172]
abbrev dktX2_isShare_0 : List UInt8 := dkwX2_isShare_0 ++ []
theorem dksX2_isShare_0 : cX2_isShare.data.toList.drop 0 = dktX2_isShare_0 := by decide +kernel
theorem dX2_isShare_0 : decode cX2_isShare 0 = .ok (.iload_n 0, 1) := dk_26 (dk_at dksX2_isShare_0 0 rfl rfl)
theorem dX2_isShare_1 : decode cX2_isShare 1 = .ok (.iconst 1, 1) := dk_4 (dk_at dksX2_isShare_0 1 rfl rfl)
theorem dX2_isShare_2 : decode cX2_isShare 2 = .ok (.bipush 100, 2) := dk_16 100 (dk_at dksX2_isShare_0 2 rfl rfl)
theorem dX2_isShare_4 : decode cX2_isShare 4 = .ok (.invokestatic 96, 3) := dk_184 0 96 (dk_at dksX2_isShare_0 4 rfl rfl)
theorem dX2_isShare_7 : decode cX2_isShare 7 = .ok (.ireturn, 1) := dk_172 (dk_at dksX2_isShare_0 7 rfl rfl)
abbrev cX2_isMark : ByteArray := prog_15_method_102_code
def yX2_isMark : MethodName := ⟨RX2, "isMark", "(IIII)Z"⟩
def dkwX2_isMark_1 : List UInt8 := [28, 29, 182, 1, 129, 104, 21, 4, 42, 182, 1, 101, 104, 161, 0, 7, 4, 167, 0, 4, 3, 172]
abbrev dktX2_isMark_1 : List UInt8 := dkwX2_isMark_1 ++ []
def dkwX2_isMark_0 : List UInt8 := [27, 28, 159, 0, 42, 42, 27, 182, 1, 114, 153, 0, 34, 42, 182, 1, 101, 158, 0, 27, 16, 100, 42, 27]
abbrev dktX2_isMark_0 : List UInt8 := dkwX2_isMark_0 ++ dktX2_isMark_1
theorem dksX2_isMark_0 : cX2_isMark.data.toList.drop 0 = dktX2_isMark_0 := by decide +kernel
theorem dksX2_isMark_1 : cX2_isMark.data.toList.drop 24 = dktX2_isMark_1 := dk_seg dksX2_isMark_0 24 rfl rfl
theorem dX2_isMark_0 : decode cX2_isMark 0 = .ok (.iload_n 1, 1) := dk_27 (dk_at dksX2_isMark_0 0 rfl rfl)
theorem dX2_isMark_1 : decode cX2_isMark 1 = .ok (.iload_n 2, 1) := dk_28 (dk_at dksX2_isMark_0 1 rfl rfl)
theorem dX2_isMark_2 : decode cX2_isMark 2 = .ok (.if_icmp .eq 42, 3) := dk_159 0 42 (dk_at dksX2_isMark_0 2 rfl rfl)
theorem dX2_isMark_5 : decode cX2_isMark 5 = .ok (.aload_n 0, 1) := dk_42 (dk_at dksX2_isMark_0 5 rfl rfl)
theorem dX2_isMark_6 : decode cX2_isMark 6 = .ok (.iload_n 1, 1) := dk_27 (dk_at dksX2_isMark_0 6 rfl rfl)
theorem dX2_isMark_7 : decode cX2_isMark 7 = .ok (.invokevirtual 370, 3) := dk_182 1 114 (dk_at dksX2_isMark_0 7 rfl rfl)
theorem dX2_isMark_10 : decode cX2_isMark 10 = .ok (.ifCond .eq 34, 3) := dk_153 0 34 (dk_at dksX2_isMark_0 10 rfl rfl)
theorem dX2_isMark_13 : decode cX2_isMark 13 = .ok (.aload_n 0, 1) := dk_42 (dk_at dksX2_isMark_0 13 rfl rfl)
theorem dX2_isMark_14 : decode cX2_isMark 14 = .ok (.invokevirtual 357, 3) := dk_182 1 101 (dk_at dksX2_isMark_0 14 rfl rfl)
theorem dX2_isMark_17 : decode cX2_isMark 17 = .ok (.ifCond .le 27, 3) := dk_158 0 27 (dk_at dksX2_isMark_0 17 rfl rfl)
theorem dX2_isMark_20 : decode cX2_isMark 20 = .ok (.bipush 100, 2) := dk_16 100 (dk_at dksX2_isMark_0 20 rfl rfl)
theorem dX2_isMark_22 : decode cX2_isMark 22 = .ok (.aload_n 0, 1) := dk_42 (dk_at dksX2_isMark_0 22 rfl rfl)
theorem dX2_isMark_23 : decode cX2_isMark 23 = .ok (.iload_n 1, 1) := dk_27 (dk_at dksX2_isMark_0 23 rfl rfl)
theorem dX2_isMark_24 : decode cX2_isMark 24 = .ok (.iload_n 2, 1) := dk_28 (dk_at dksX2_isMark_1 0 rfl rfl)
theorem dX2_isMark_25 : decode cX2_isMark 25 = .ok (.iload_n 3, 1) := dk_29 (dk_at dksX2_isMark_1 1 rfl rfl)
theorem dX2_isMark_26 : decode cX2_isMark 26 = .ok (.invokevirtual 385, 3) := dk_182 1 129 (dk_at dksX2_isMark_1 2 rfl rfl)
theorem dX2_isMark_29 : decode cX2_isMark 29 = .ok (.imul, 1) := dk_104 (dk_at dksX2_isMark_1 5 rfl rfl)
theorem dX2_isMark_30 : decode cX2_isMark 30 = .ok (.iload 4, 2) := dk_21 4 (dk_at dksX2_isMark_1 6 rfl rfl)
theorem dX2_isMark_32 : decode cX2_isMark 32 = .ok (.aload_n 0, 1) := dk_42 (dk_at dksX2_isMark_1 8 rfl rfl)
theorem dX2_isMark_33 : decode cX2_isMark 33 = .ok (.invokevirtual 357, 3) := dk_182 1 101 (dk_at dksX2_isMark_1 9 rfl rfl)
theorem dX2_isMark_36 : decode cX2_isMark 36 = .ok (.imul, 1) := dk_104 (dk_at dksX2_isMark_1 12 rfl rfl)
theorem dX2_isMark_37 : decode cX2_isMark 37 = .ok (.if_icmp .lt 7, 3) := dk_161 0 7 (dk_at dksX2_isMark_1 13 rfl rfl)
theorem dX2_isMark_40 : decode cX2_isMark 40 = .ok (.iconst 1, 1) := dk_4 (dk_at dksX2_isMark_1 16 rfl rfl)
theorem dX2_isMark_41 : decode cX2_isMark 41 = .ok (.goto 4, 3) := dk_167 0 4 (dk_at dksX2_isMark_1 17 rfl rfl)
theorem dX2_isMark_44 : decode cX2_isMark 44 = .ok (.iconst 0, 1) := dk_3 (dk_at dksX2_isMark_1 20 rfl rfl)
theorem dX2_isMark_45 : decode cX2_isMark 45 = .ok (.ireturn, 1) := dk_172 (dk_at dksX2_isMark_1 21 rfl rfl)
abbrev cX2_aliases : ByteArray := prog_15_method_105_code
def yX2_aliases : MethodName := ⟨RX2, "aliases", "(II)I"⟩
def dkwX2_aliases_3 : List UInt8 := [3, 96, 54, 4, 132, 5, 1, 167, 255, 222, 21, 4, 172]
abbrev dktX2_aliases_3 : List UInt8 := dkwX2_aliases_3 ++ []
def dkwX2_aliases_2 : List UInt8 := [182, 0, 237, 162, 0, 31, 21, 4, 42, 21, 5, 29, 27, 28, 182, 1, 135, 153, 0, 7, 4, 167, 0, 4]
abbrev dktX2_aliases_2 : List UInt8 := dkwX2_aliases_2 ++ dktX2_aliases_3
def dkwX2_aliases_1 : List UInt8 := [154, 0, 5, 3, 172, 42, 42, 180, 0, 23, 182, 1, 111, 62, 3, 54, 4, 3, 54, 5, 21, 5, 42]
abbrev dktX2_aliases_1 : List UInt8 := dkwX2_aliases_1 ++ dktX2_aliases_2
def dkwX2_aliases_0 : List UInt8 := [42, 27, 184, 1, 126, 153, 0, 14, 28, 184, 1, 132, 153, 0, 7, 4, 167, 0, 4, 3, 182, 1, 84]
abbrev dktX2_aliases_0 : List UInt8 := dkwX2_aliases_0 ++ dktX2_aliases_1
theorem dksX2_aliases_0 : cX2_aliases.data.toList.drop 0 = dktX2_aliases_0 := by decide +kernel
theorem dksX2_aliases_1 : cX2_aliases.data.toList.drop 23 = dktX2_aliases_1 := dk_seg dksX2_aliases_0 23 rfl rfl
theorem dksX2_aliases_2 : cX2_aliases.data.toList.drop 46 = dktX2_aliases_2 := dk_seg dksX2_aliases_1 23 rfl rfl
theorem dksX2_aliases_3 : cX2_aliases.data.toList.drop 70 = dktX2_aliases_3 := dk_seg dksX2_aliases_2 24 rfl rfl
theorem dX2_aliases_0 : decode cX2_aliases 0 = .ok (.aload_n 0, 1) := dk_42 (dk_at dksX2_aliases_0 0 rfl rfl)
theorem dX2_aliases_1 : decode cX2_aliases 1 = .ok (.iload_n 1, 1) := dk_27 (dk_at dksX2_aliases_0 1 rfl rfl)
theorem dX2_aliases_2 : decode cX2_aliases 2 = .ok (.invokestatic 382, 3) := dk_184 1 126 (dk_at dksX2_aliases_0 2 rfl rfl)
theorem dX2_aliases_5 : decode cX2_aliases 5 = .ok (.ifCond .eq 14, 3) := dk_153 0 14 (dk_at dksX2_aliases_0 5 rfl rfl)
theorem dX2_aliases_8 : decode cX2_aliases 8 = .ok (.iload_n 2, 1) := dk_28 (dk_at dksX2_aliases_0 8 rfl rfl)
theorem dX2_aliases_9 : decode cX2_aliases 9 = .ok (.invokestatic 388, 3) := dk_184 1 132 (dk_at dksX2_aliases_0 9 rfl rfl)
theorem dX2_aliases_12 : decode cX2_aliases 12 = .ok (.ifCond .eq 7, 3) := dk_153 0 7 (dk_at dksX2_aliases_0 12 rfl rfl)
theorem dX2_aliases_15 : decode cX2_aliases 15 = .ok (.iconst 1, 1) := dk_4 (dk_at dksX2_aliases_0 15 rfl rfl)
theorem dX2_aliases_16 : decode cX2_aliases 16 = .ok (.goto 4, 3) := dk_167 0 4 (dk_at dksX2_aliases_0 16 rfl rfl)
theorem dX2_aliases_19 : decode cX2_aliases 19 = .ok (.iconst 0, 1) := dk_3 (dk_at dksX2_aliases_0 19 rfl rfl)
theorem dX2_aliases_20 : decode cX2_aliases 20 = .ok (.invokevirtual 340, 3) := dk_182 1 84 (dk_at dksX2_aliases_0 20 rfl rfl)
theorem dX2_aliases_23 : decode cX2_aliases 23 = .ok (.ifCond .ne 5, 3) := dk_154 0 5 (dk_at dksX2_aliases_1 0 rfl rfl)
theorem dX2_aliases_26 : decode cX2_aliases 26 = .ok (.iconst 0, 1) := dk_3 (dk_at dksX2_aliases_1 3 rfl rfl)
theorem dX2_aliases_27 : decode cX2_aliases 27 = .ok (.ireturn, 1) := dk_172 (dk_at dksX2_aliases_1 4 rfl rfl)
theorem dX2_aliases_28 : decode cX2_aliases 28 = .ok (.aload_n 0, 1) := dk_42 (dk_at dksX2_aliases_1 5 rfl rfl)
theorem dX2_aliases_29 : decode cX2_aliases 29 = .ok (.aload_n 0, 1) := dk_42 (dk_at dksX2_aliases_1 6 rfl rfl)
theorem dX2_aliases_30 : decode cX2_aliases 30 = .ok (.getfield 23, 3) := dk_180 0 23 (dk_at dksX2_aliases_1 7 rfl rfl)
theorem dX2_aliases_33 : decode cX2_aliases 33 = .ok (.invokevirtual 367, 3) := dk_182 1 111 (dk_at dksX2_aliases_1 10 rfl rfl)
theorem dX2_aliases_36 : decode cX2_aliases 36 = .ok (.istore_n 3, 1) := dk_62 (dk_at dksX2_aliases_1 13 rfl rfl)
theorem dX2_aliases_37 : decode cX2_aliases 37 = .ok (.iconst 0, 1) := dk_3 (dk_at dksX2_aliases_1 14 rfl rfl)
theorem dX2_aliases_38 : decode cX2_aliases 38 = .ok (.istore 4, 2) := dk_54 4 (dk_at dksX2_aliases_1 15 rfl rfl)
theorem dX2_aliases_40 : decode cX2_aliases 40 = .ok (.iconst 0, 1) := dk_3 (dk_at dksX2_aliases_1 17 rfl rfl)
theorem dX2_aliases_41 : decode cX2_aliases 41 = .ok (.istore 5, 2) := dk_54 5 (dk_at dksX2_aliases_1 18 rfl rfl)
theorem dX2_aliases_43 : decode cX2_aliases 43 = .ok (.iload 5, 2) := dk_21 5 (dk_at dksX2_aliases_1 20 rfl rfl)
theorem dX2_aliases_45 : decode cX2_aliases 45 = .ok (.aload_n 0, 1) := dk_42 (dk_at dksX2_aliases_1 22 rfl rfl)
theorem dX2_aliases_46 : decode cX2_aliases 46 = .ok (.invokevirtual 237, 3) := dk_182 0 237 (dk_at dksX2_aliases_2 0 rfl rfl)
theorem dX2_aliases_49 : decode cX2_aliases 49 = .ok (.if_icmp .ge 31, 3) := dk_162 0 31 (dk_at dksX2_aliases_2 3 rfl rfl)
theorem dX2_aliases_52 : decode cX2_aliases 52 = .ok (.iload 4, 2) := dk_21 4 (dk_at dksX2_aliases_2 6 rfl rfl)
theorem dX2_aliases_54 : decode cX2_aliases 54 = .ok (.aload_n 0, 1) := dk_42 (dk_at dksX2_aliases_2 8 rfl rfl)
theorem dX2_aliases_55 : decode cX2_aliases 55 = .ok (.iload 5, 2) := dk_21 5 (dk_at dksX2_aliases_2 9 rfl rfl)
theorem dX2_aliases_57 : decode cX2_aliases 57 = .ok (.iload_n 3, 1) := dk_29 (dk_at dksX2_aliases_2 11 rfl rfl)
theorem dX2_aliases_58 : decode cX2_aliases 58 = .ok (.iload_n 1, 1) := dk_27 (dk_at dksX2_aliases_2 12 rfl rfl)
theorem dX2_aliases_59 : decode cX2_aliases 59 = .ok (.iload_n 2, 1) := dk_28 (dk_at dksX2_aliases_2 13 rfl rfl)
theorem dX2_aliases_60 : decode cX2_aliases 60 = .ok (.invokevirtual 391, 3) := dk_182 1 135 (dk_at dksX2_aliases_2 14 rfl rfl)
theorem dX2_aliases_63 : decode cX2_aliases 63 = .ok (.ifCond .eq 7, 3) := dk_153 0 7 (dk_at dksX2_aliases_2 17 rfl rfl)
theorem dX2_aliases_66 : decode cX2_aliases 66 = .ok (.iconst 1, 1) := dk_4 (dk_at dksX2_aliases_2 20 rfl rfl)
theorem dX2_aliases_67 : decode cX2_aliases 67 = .ok (.goto 4, 3) := dk_167 0 4 (dk_at dksX2_aliases_2 21 rfl rfl)
theorem dX2_aliases_70 : decode cX2_aliases 70 = .ok (.iconst 0, 1) := dk_3 (dk_at dksX2_aliases_3 0 rfl rfl)
theorem dX2_aliases_71 : decode cX2_aliases 71 = .ok (.iadd, 1) := dk_96 (dk_at dksX2_aliases_3 1 rfl rfl)
theorem dX2_aliases_72 : decode cX2_aliases 72 = .ok (.istore 4, 2) := dk_54 4 (dk_at dksX2_aliases_3 2 rfl rfl)
theorem dX2_aliases_74 : decode cX2_aliases 74 = .ok (.iinc 5 1, 3) := dk_132 5 1 (dk_at dksX2_aliases_3 4 rfl rfl)
theorem dX2_aliases_77 : decode cX2_aliases 77 = .ok (.goto (-34), 3) := dk_167 255 222 (dk_at dksX2_aliases_3 7 rfl rfl)
theorem dX2_aliases_80 : decode cX2_aliases 80 = .ok (.iload 4, 2) := dk_21 4 (dk_at dksX2_aliases_3 10 rfl rfl)
theorem dX2_aliases_82 : decode cX2_aliases 82 = .ok (.ireturn, 1) := dk_172 (dk_at dksX2_aliases_3 12 rfl rfl)
abbrev cX2_blockPower : ByteArray := prog_15_method_108_code
def yX2_blockPower : MethodName := ⟨RX2, "blockPower", "(III)J"⟩
def dkwX2_blockPower_1 : List UInt8 := [27, 28, 29, 182, 1, 142, 167, 0, 9, 42, 6, 182, 0, 227, 133, 173]
abbrev dktX2_blockPower_1 : List UInt8 := dkwX2_blockPower_1 ++ []
def dkwX2_blockPower_0 : List UInt8 := [42, 42, 27, 182, 1, 88, 182, 1, 84, 154, 0, 5, 9, 173, 42, 28, 29, 182, 1, 139, 153, 0, 13, 42]
abbrev dktX2_blockPower_0 : List UInt8 := dkwX2_blockPower_0 ++ dktX2_blockPower_1
theorem dksX2_blockPower_0 : cX2_blockPower.data.toList.drop 0 = dktX2_blockPower_0 := by decide +kernel
theorem dksX2_blockPower_1 : cX2_blockPower.data.toList.drop 24 = dktX2_blockPower_1 := dk_seg dksX2_blockPower_0 24 rfl rfl
theorem dX2_blockPower_0 : decode cX2_blockPower 0 = .ok (.aload_n 0, 1) := dk_42 (dk_at dksX2_blockPower_0 0 rfl rfl)
theorem dX2_blockPower_1 : decode cX2_blockPower 1 = .ok (.aload_n 0, 1) := dk_42 (dk_at dksX2_blockPower_0 1 rfl rfl)
theorem dX2_blockPower_2 : decode cX2_blockPower 2 = .ok (.iload_n 1, 1) := dk_27 (dk_at dksX2_blockPower_0 2 rfl rfl)
theorem dX2_blockPower_3 : decode cX2_blockPower 3 = .ok (.invokevirtual 344, 3) := dk_182 1 88 (dk_at dksX2_blockPower_0 3 rfl rfl)
theorem dX2_blockPower_6 : decode cX2_blockPower 6 = .ok (.invokevirtual 340, 3) := dk_182 1 84 (dk_at dksX2_blockPower_0 6 rfl rfl)
theorem dX2_blockPower_9 : decode cX2_blockPower 9 = .ok (.ifCond .ne 5, 3) := dk_154 0 5 (dk_at dksX2_blockPower_0 9 rfl rfl)
theorem dX2_blockPower_12 : decode cX2_blockPower 12 = .ok (.lconst 0, 1) := dk_9 (dk_at dksX2_blockPower_0 12 rfl rfl)
theorem dX2_blockPower_13 : decode cX2_blockPower 13 = .ok (.lreturn, 1) := dk_173 (dk_at dksX2_blockPower_0 13 rfl rfl)
theorem dX2_blockPower_14 : decode cX2_blockPower 14 = .ok (.aload_n 0, 1) := dk_42 (dk_at dksX2_blockPower_0 14 rfl rfl)
theorem dX2_blockPower_15 : decode cX2_blockPower 15 = .ok (.iload_n 2, 1) := dk_28 (dk_at dksX2_blockPower_0 15 rfl rfl)
theorem dX2_blockPower_16 : decode cX2_blockPower 16 = .ok (.iload_n 3, 1) := dk_29 (dk_at dksX2_blockPower_0 16 rfl rfl)
theorem dX2_blockPower_17 : decode cX2_blockPower 17 = .ok (.invokevirtual 395, 3) := dk_182 1 139 (dk_at dksX2_blockPower_0 17 rfl rfl)
theorem dX2_blockPower_20 : decode cX2_blockPower 20 = .ok (.ifCond .eq 13, 3) := dk_153 0 13 (dk_at dksX2_blockPower_0 20 rfl rfl)
theorem dX2_blockPower_23 : decode cX2_blockPower 23 = .ok (.aload_n 0, 1) := dk_42 (dk_at dksX2_blockPower_0 23 rfl rfl)
theorem dX2_blockPower_24 : decode cX2_blockPower 24 = .ok (.iload_n 1, 1) := dk_27 (dk_at dksX2_blockPower_1 0 rfl rfl)
theorem dX2_blockPower_25 : decode cX2_blockPower 25 = .ok (.iload_n 2, 1) := dk_28 (dk_at dksX2_blockPower_1 1 rfl rfl)
theorem dX2_blockPower_26 : decode cX2_blockPower 26 = .ok (.iload_n 3, 1) := dk_29 (dk_at dksX2_blockPower_1 2 rfl rfl)
theorem dX2_blockPower_27 : decode cX2_blockPower 27 = .ok (.invokevirtual 398, 3) := dk_182 1 142 (dk_at dksX2_blockPower_1 3 rfl rfl)
theorem dX2_blockPower_30 : decode cX2_blockPower 30 = .ok (.goto 9, 3) := dk_167 0 9 (dk_at dksX2_blockPower_1 6 rfl rfl)
theorem dX2_blockPower_33 : decode cX2_blockPower 33 = .ok (.aload_n 0, 1) := dk_42 (dk_at dksX2_blockPower_1 9 rfl rfl)
theorem dX2_blockPower_34 : decode cX2_blockPower 34 = .ok (.iconst 3, 1) := dk_6 (dk_at dksX2_blockPower_1 10 rfl rfl)
theorem dX2_blockPower_35 : decode cX2_blockPower 35 = .ok (.invokevirtual 227, 3) := dk_182 0 227 (dk_at dksX2_blockPower_1 11 rfl rfl)
theorem dX2_blockPower_38 : decode cX2_blockPower 38 = .ok (.i2l, 1) := dk_133 (dk_at dksX2_blockPower_1 14 rfl rfl)
theorem dX2_blockPower_39 : decode cX2_blockPower 39 = .ok (.lreturn, 1) := dk_173 (dk_at dksX2_blockPower_1 15 rfl rfl)
abbrev cX2_isBlock : ByteArray := prog_15_method_107_code
def yX2_isBlock : MethodName := ⟨RX2, "isBlock", "(II)Z"⟩
def dkwX2_isBlock_1 : List UInt8 := [167, 0, 4, 3, 172]
abbrev dktX2_isBlock_1 : List UInt8 := dkwX2_isBlock_1 ++ []
def dkwX2_isBlock_0 : List UInt8 := [42, 27, 182, 1, 94, 153, 0, 21, 28, 4, 42, 180, 0, 17, 5, 46, 184, 0, 96, 153, 0, 7, 4]
abbrev dktX2_isBlock_0 : List UInt8 := dkwX2_isBlock_0 ++ dktX2_isBlock_1
theorem dksX2_isBlock_0 : cX2_isBlock.data.toList.drop 0 = dktX2_isBlock_0 := by decide +kernel
theorem dksX2_isBlock_1 : cX2_isBlock.data.toList.drop 23 = dktX2_isBlock_1 := dk_seg dksX2_isBlock_0 23 rfl rfl
theorem dX2_isBlock_0 : decode cX2_isBlock 0 = .ok (.aload_n 0, 1) := dk_42 (dk_at dksX2_isBlock_0 0 rfl rfl)
theorem dX2_isBlock_1 : decode cX2_isBlock 1 = .ok (.iload_n 1, 1) := dk_27 (dk_at dksX2_isBlock_0 1 rfl rfl)
theorem dX2_isBlock_2 : decode cX2_isBlock 2 = .ok (.invokevirtual 350, 3) := dk_182 1 94 (dk_at dksX2_isBlock_0 2 rfl rfl)
theorem dX2_isBlock_5 : decode cX2_isBlock 5 = .ok (.ifCond .eq 21, 3) := dk_153 0 21 (dk_at dksX2_isBlock_0 5 rfl rfl)
theorem dX2_isBlock_8 : decode cX2_isBlock 8 = .ok (.iload_n 2, 1) := dk_28 (dk_at dksX2_isBlock_0 8 rfl rfl)
theorem dX2_isBlock_9 : decode cX2_isBlock 9 = .ok (.iconst 1, 1) := dk_4 (dk_at dksX2_isBlock_0 9 rfl rfl)
theorem dX2_isBlock_10 : decode cX2_isBlock 10 = .ok (.aload_n 0, 1) := dk_42 (dk_at dksX2_isBlock_0 10 rfl rfl)
theorem dX2_isBlock_11 : decode cX2_isBlock 11 = .ok (.getfield 17, 3) := dk_180 0 17 (dk_at dksX2_isBlock_0 11 rfl rfl)
theorem dX2_isBlock_14 : decode cX2_isBlock 14 = .ok (.iconst 2, 1) := dk_5 (dk_at dksX2_isBlock_0 14 rfl rfl)
theorem dX2_isBlock_15 : decode cX2_isBlock 15 = .ok (.iaload, 1) := dk_46 (dk_at dksX2_isBlock_0 15 rfl rfl)
theorem dX2_isBlock_16 : decode cX2_isBlock 16 = .ok (.invokestatic 96, 3) := dk_184 0 96 (dk_at dksX2_isBlock_0 16 rfl rfl)
theorem dX2_isBlock_19 : decode cX2_isBlock 19 = .ok (.ifCond .eq 7, 3) := dk_153 0 7 (dk_at dksX2_isBlock_0 19 rfl rfl)
theorem dX2_isBlock_22 : decode cX2_isBlock 22 = .ok (.iconst 1, 1) := dk_4 (dk_at dksX2_isBlock_0 22 rfl rfl)
theorem dX2_isBlock_23 : decode cX2_isBlock 23 = .ok (.goto 4, 3) := dk_167 0 4 (dk_at dksX2_isBlock_1 0 rfl rfl)
theorem dX2_isBlock_26 : decode cX2_isBlock 26 = .ok (.iconst 0, 1) := dk_3 (dk_at dksX2_isBlock_1 3 rfl rfl)
theorem dX2_isBlock_27 : decode cX2_isBlock 27 = .ok (.ireturn, 1) := dk_172 (dk_at dksX2_isBlock_1 4 rfl rfl)
abbrev cX2_blockOf : ByteArray := prog_15_method_106_code
def yX2_blockOf : MethodName := ⟨RX2, "blockOf", "(III)J"⟩
def dkwX2_blockOf_1 : List UInt8 := [184, 1, 12, 182, 1, 60, 29, 133, 109, 173]
abbrev dktX2_blockOf_1 : List UInt8 := dkwX2_blockOf_1 ++ []
def dkwX2_blockOf_0 : List UInt8 := [42, 27, 182, 1, 64, 42, 42, 180, 0, 23, 28, 42, 42, 180, 0, 23, 182, 1, 56, 28, 29, 96]
abbrev dktX2_blockOf_0 : List UInt8 := dkwX2_blockOf_0 ++ dktX2_blockOf_1
theorem dksX2_blockOf_0 : cX2_blockOf.data.toList.drop 0 = dktX2_blockOf_0 := by decide +kernel
theorem dksX2_blockOf_1 : cX2_blockOf.data.toList.drop 22 = dktX2_blockOf_1 := dk_seg dksX2_blockOf_0 22 rfl rfl
theorem dX2_blockOf_0 : decode cX2_blockOf 0 = .ok (.aload_n 0, 1) := dk_42 (dk_at dksX2_blockOf_0 0 rfl rfl)
theorem dX2_blockOf_1 : decode cX2_blockOf 1 = .ok (.iload_n 1, 1) := dk_27 (dk_at dksX2_blockOf_0 1 rfl rfl)
theorem dX2_blockOf_2 : decode cX2_blockOf 2 = .ok (.invokevirtual 320, 3) := dk_182 1 64 (dk_at dksX2_blockOf_0 2 rfl rfl)
theorem dX2_blockOf_5 : decode cX2_blockOf 5 = .ok (.aload_n 0, 1) := dk_42 (dk_at dksX2_blockOf_0 5 rfl rfl)
theorem dX2_blockOf_6 : decode cX2_blockOf 6 = .ok (.aload_n 0, 1) := dk_42 (dk_at dksX2_blockOf_0 6 rfl rfl)
theorem dX2_blockOf_7 : decode cX2_blockOf 7 = .ok (.getfield 23, 3) := dk_180 0 23 (dk_at dksX2_blockOf_0 7 rfl rfl)
theorem dX2_blockOf_10 : decode cX2_blockOf 10 = .ok (.iload_n 2, 1) := dk_28 (dk_at dksX2_blockOf_0 10 rfl rfl)
theorem dX2_blockOf_11 : decode cX2_blockOf 11 = .ok (.aload_n 0, 1) := dk_42 (dk_at dksX2_blockOf_0 11 rfl rfl)
theorem dX2_blockOf_12 : decode cX2_blockOf 12 = .ok (.aload_n 0, 1) := dk_42 (dk_at dksX2_blockOf_0 12 rfl rfl)
theorem dX2_blockOf_13 : decode cX2_blockOf 13 = .ok (.getfield 23, 3) := dk_180 0 23 (dk_at dksX2_blockOf_0 13 rfl rfl)
theorem dX2_blockOf_16 : decode cX2_blockOf 16 = .ok (.invokevirtual 312, 3) := dk_182 1 56 (dk_at dksX2_blockOf_0 16 rfl rfl)
theorem dX2_blockOf_19 : decode cX2_blockOf 19 = .ok (.iload_n 2, 1) := dk_28 (dk_at dksX2_blockOf_0 19 rfl rfl)
theorem dX2_blockOf_20 : decode cX2_blockOf 20 = .ok (.iload_n 3, 1) := dk_29 (dk_at dksX2_blockOf_0 20 rfl rfl)
theorem dX2_blockOf_21 : decode cX2_blockOf 21 = .ok (.iadd, 1) := dk_96 (dk_at dksX2_blockOf_0 21 rfl rfl)
theorem dX2_blockOf_22 : decode cX2_blockOf 22 = .ok (.invokestatic 268, 3) := dk_184 1 12 (dk_at dksX2_blockOf_1 0 rfl rfl)
theorem dX2_blockOf_25 : decode cX2_blockOf 25 = .ok (.invokevirtual 316, 3) := dk_182 1 60 (dk_at dksX2_blockOf_1 3 rfl rfl)
theorem dX2_blockOf_28 : decode cX2_blockOf 28 = .ok (.iload_n 3, 1) := dk_29 (dk_at dksX2_blockOf_1 6 rfl rfl)
theorem dX2_blockOf_29 : decode cX2_blockOf 29 = .ok (.i2l, 1) := dk_133 (dk_at dksX2_blockOf_1 7 rfl rfl)
theorem dX2_blockOf_30 : decode cX2_blockOf 30 = .ok (.ldiv, 1) := dk_109 (dk_at dksX2_blockOf_1 8 rfl rfl)
theorem dX2_blockOf_31 : decode cX2_blockOf 31 = .ok (.lreturn, 1) := dk_173 (dk_at dksX2_blockOf_1 9 rfl rfl)
abbrev cX2_blockBest : ByteArray := prog_15_method_110_code
def yX2_blockBest : MethodName := ⟨RX2, "blockBest", "(II)I"⟩
def dkwX2_blockBest_0 : List UInt8 := [42, 42, 27, 28, 182, 1, 139, 182, 1, 84, 153, 0, 12, 42, 27, 28, 182, 1, 146, 167, 0, 4, 3, 172]
abbrev dktX2_blockBest_0 : List UInt8 := dkwX2_blockBest_0 ++ []
theorem dksX2_blockBest_0 : cX2_blockBest.data.toList.drop 0 = dktX2_blockBest_0 := by decide +kernel
theorem dX2_blockBest_0 : decode cX2_blockBest 0 = .ok (.aload_n 0, 1) := dk_42 (dk_at dksX2_blockBest_0 0 rfl rfl)
theorem dX2_blockBest_1 : decode cX2_blockBest 1 = .ok (.aload_n 0, 1) := dk_42 (dk_at dksX2_blockBest_0 1 rfl rfl)
theorem dX2_blockBest_2 : decode cX2_blockBest 2 = .ok (.iload_n 1, 1) := dk_27 (dk_at dksX2_blockBest_0 2 rfl rfl)
theorem dX2_blockBest_3 : decode cX2_blockBest 3 = .ok (.iload_n 2, 1) := dk_28 (dk_at dksX2_blockBest_0 3 rfl rfl)
theorem dX2_blockBest_4 : decode cX2_blockBest 4 = .ok (.invokevirtual 395, 3) := dk_182 1 139 (dk_at dksX2_blockBest_0 4 rfl rfl)
theorem dX2_blockBest_7 : decode cX2_blockBest 7 = .ok (.invokevirtual 340, 3) := dk_182 1 84 (dk_at dksX2_blockBest_0 7 rfl rfl)
theorem dX2_blockBest_10 : decode cX2_blockBest 10 = .ok (.ifCond .eq 12, 3) := dk_153 0 12 (dk_at dksX2_blockBest_0 10 rfl rfl)
theorem dX2_blockBest_13 : decode cX2_blockBest 13 = .ok (.aload_n 0, 1) := dk_42 (dk_at dksX2_blockBest_0 13 rfl rfl)
theorem dX2_blockBest_14 : decode cX2_blockBest 14 = .ok (.iload_n 1, 1) := dk_27 (dk_at dksX2_blockBest_0 14 rfl rfl)
theorem dX2_blockBest_15 : decode cX2_blockBest 15 = .ok (.iload_n 2, 1) := dk_28 (dk_at dksX2_blockBest_0 15 rfl rfl)
theorem dX2_blockBest_16 : decode cX2_blockBest 16 = .ok (.invokevirtual 402, 3) := dk_182 1 146 (dk_at dksX2_blockBest_0 16 rfl rfl)
theorem dX2_blockBest_19 : decode cX2_blockBest 19 = .ok (.goto 4, 3) := dk_167 0 4 (dk_at dksX2_blockBest_0 19 rfl rfl)
theorem dX2_blockBest_22 : decode cX2_blockBest 22 = .ok (.iconst 0, 1) := dk_3 (dk_at dksX2_blockBest_0 22 rfl rfl)
theorem dX2_blockBest_23 : decode cX2_blockBest 23 = .ok (.ireturn, 1) := dk_172 (dk_at dksX2_blockBest_0 23 rfl rfl)
abbrev cX2_bestOfBlock : ByteArray := prog_15_method_109_code
def yX2_bestOfBlock : MethodName := ⟨RX2, "bestOfBlock", "(II)I"⟩
def dkwX2_bestOfBlock_2 : List UInt8 := [22, 7, 55, 4, 132, 6, 1, 167, 255, 216, 29, 172]
abbrev dktX2_bestOfBlock_2 : List UInt8 := dkwX2_bestOfBlock_2 ++ []
def dkwX2_bestOfBlock_1 : List UInt8 := [21, 6, 27, 28, 182, 1, 142, 55, 7, 22, 7, 22, 4, 148, 157, 0, 6, 167, 0, 10, 21, 6, 62]
abbrev dktX2_bestOfBlock_1 : List UInt8 := dkwX2_bestOfBlock_1 ++ dktX2_bestOfBlock_2
def dkwX2_bestOfBlock_0 : List UInt8 := [3, 62, 42, 3, 27, 28, 182, 1, 142, 55, 4, 4, 54, 6, 21, 6, 42, 182, 0, 237, 162, 0, 37, 42]
abbrev dktX2_bestOfBlock_0 : List UInt8 := dkwX2_bestOfBlock_0 ++ dktX2_bestOfBlock_1
theorem dksX2_bestOfBlock_0 : cX2_bestOfBlock.data.toList.drop 0 = dktX2_bestOfBlock_0 := by decide +kernel
theorem dksX2_bestOfBlock_1 : cX2_bestOfBlock.data.toList.drop 24 = dktX2_bestOfBlock_1 := dk_seg dksX2_bestOfBlock_0 24 rfl rfl
theorem dksX2_bestOfBlock_2 : cX2_bestOfBlock.data.toList.drop 47 = dktX2_bestOfBlock_2 := dk_seg dksX2_bestOfBlock_1 23 rfl rfl
theorem dX2_bestOfBlock_0 : decode cX2_bestOfBlock 0 = .ok (.iconst 0, 1) := dk_3 (dk_at dksX2_bestOfBlock_0 0 rfl rfl)
theorem dX2_bestOfBlock_1 : decode cX2_bestOfBlock 1 = .ok (.istore_n 3, 1) := dk_62 (dk_at dksX2_bestOfBlock_0 1 rfl rfl)
theorem dX2_bestOfBlock_2 : decode cX2_bestOfBlock 2 = .ok (.aload_n 0, 1) := dk_42 (dk_at dksX2_bestOfBlock_0 2 rfl rfl)
theorem dX2_bestOfBlock_3 : decode cX2_bestOfBlock 3 = .ok (.iconst 0, 1) := dk_3 (dk_at dksX2_bestOfBlock_0 3 rfl rfl)
theorem dX2_bestOfBlock_4 : decode cX2_bestOfBlock 4 = .ok (.iload_n 1, 1) := dk_27 (dk_at dksX2_bestOfBlock_0 4 rfl rfl)
theorem dX2_bestOfBlock_5 : decode cX2_bestOfBlock 5 = .ok (.iload_n 2, 1) := dk_28 (dk_at dksX2_bestOfBlock_0 5 rfl rfl)
theorem dX2_bestOfBlock_6 : decode cX2_bestOfBlock 6 = .ok (.invokevirtual 398, 3) := dk_182 1 142 (dk_at dksX2_bestOfBlock_0 6 rfl rfl)
theorem dX2_bestOfBlock_9 : decode cX2_bestOfBlock 9 = .ok (.lstore 4, 2) := dk_55 4 (dk_at dksX2_bestOfBlock_0 9 rfl rfl)
theorem dX2_bestOfBlock_11 : decode cX2_bestOfBlock 11 = .ok (.iconst 1, 1) := dk_4 (dk_at dksX2_bestOfBlock_0 11 rfl rfl)
theorem dX2_bestOfBlock_12 : decode cX2_bestOfBlock 12 = .ok (.istore 6, 2) := dk_54 6 (dk_at dksX2_bestOfBlock_0 12 rfl rfl)
theorem dX2_bestOfBlock_14 : decode cX2_bestOfBlock 14 = .ok (.iload 6, 2) := dk_21 6 (dk_at dksX2_bestOfBlock_0 14 rfl rfl)
theorem dX2_bestOfBlock_16 : decode cX2_bestOfBlock 16 = .ok (.aload_n 0, 1) := dk_42 (dk_at dksX2_bestOfBlock_0 16 rfl rfl)
theorem dX2_bestOfBlock_17 : decode cX2_bestOfBlock 17 = .ok (.invokevirtual 237, 3) := dk_182 0 237 (dk_at dksX2_bestOfBlock_0 17 rfl rfl)
theorem dX2_bestOfBlock_20 : decode cX2_bestOfBlock 20 = .ok (.if_icmp .ge 37, 3) := dk_162 0 37 (dk_at dksX2_bestOfBlock_0 20 rfl rfl)
theorem dX2_bestOfBlock_23 : decode cX2_bestOfBlock 23 = .ok (.aload_n 0, 1) := dk_42 (dk_at dksX2_bestOfBlock_0 23 rfl rfl)
theorem dX2_bestOfBlock_24 : decode cX2_bestOfBlock 24 = .ok (.iload 6, 2) := dk_21 6 (dk_at dksX2_bestOfBlock_1 0 rfl rfl)
theorem dX2_bestOfBlock_26 : decode cX2_bestOfBlock 26 = .ok (.iload_n 1, 1) := dk_27 (dk_at dksX2_bestOfBlock_1 2 rfl rfl)
theorem dX2_bestOfBlock_27 : decode cX2_bestOfBlock 27 = .ok (.iload_n 2, 1) := dk_28 (dk_at dksX2_bestOfBlock_1 3 rfl rfl)
theorem dX2_bestOfBlock_28 : decode cX2_bestOfBlock 28 = .ok (.invokevirtual 398, 3) := dk_182 1 142 (dk_at dksX2_bestOfBlock_1 4 rfl rfl)
theorem dX2_bestOfBlock_31 : decode cX2_bestOfBlock 31 = .ok (.lstore 7, 2) := dk_55 7 (dk_at dksX2_bestOfBlock_1 7 rfl rfl)
theorem dX2_bestOfBlock_33 : decode cX2_bestOfBlock 33 = .ok (.lload 7, 2) := dk_22 7 (dk_at dksX2_bestOfBlock_1 9 rfl rfl)
theorem dX2_bestOfBlock_35 : decode cX2_bestOfBlock 35 = .ok (.lload 4, 2) := dk_22 4 (dk_at dksX2_bestOfBlock_1 11 rfl rfl)
theorem dX2_bestOfBlock_37 : decode cX2_bestOfBlock 37 = .ok (.lcmp, 1) := dk_148 (dk_at dksX2_bestOfBlock_1 13 rfl rfl)
theorem dX2_bestOfBlock_38 : decode cX2_bestOfBlock 38 = .ok (.ifCond .gt 6, 3) := dk_157 0 6 (dk_at dksX2_bestOfBlock_1 14 rfl rfl)
theorem dX2_bestOfBlock_41 : decode cX2_bestOfBlock 41 = .ok (.goto 10, 3) := dk_167 0 10 (dk_at dksX2_bestOfBlock_1 17 rfl rfl)
theorem dX2_bestOfBlock_44 : decode cX2_bestOfBlock 44 = .ok (.iload 6, 2) := dk_21 6 (dk_at dksX2_bestOfBlock_1 20 rfl rfl)
theorem dX2_bestOfBlock_46 : decode cX2_bestOfBlock 46 = .ok (.istore_n 3, 1) := dk_62 (dk_at dksX2_bestOfBlock_1 22 rfl rfl)
theorem dX2_bestOfBlock_47 : decode cX2_bestOfBlock 47 = .ok (.lload 7, 2) := dk_22 7 (dk_at dksX2_bestOfBlock_2 0 rfl rfl)
theorem dX2_bestOfBlock_49 : decode cX2_bestOfBlock 49 = .ok (.lstore 4, 2) := dk_55 4 (dk_at dksX2_bestOfBlock_2 2 rfl rfl)
theorem dX2_bestOfBlock_51 : decode cX2_bestOfBlock 51 = .ok (.iinc 6 1, 3) := dk_132 6 1 (dk_at dksX2_bestOfBlock_2 4 rfl rfl)
theorem dX2_bestOfBlock_54 : decode cX2_bestOfBlock 54 = .ok (.goto (-40), 3) := dk_167 255 216 (dk_at dksX2_bestOfBlock_2 7 rfl rfl)
theorem dX2_bestOfBlock_57 : decode cX2_bestOfBlock 57 = .ok (.iload_n 3, 1) := dk_29 (dk_at dksX2_bestOfBlock_2 10 rfl rfl)
theorem dX2_bestOfBlock_58 : decode cX2_bestOfBlock 58 = .ok (.ireturn, 1) := dk_172 (dk_at dksX2_bestOfBlock_2 11 rfl rfl)
abbrev cX2_path : ByteArray := prog_15_method_111_code
def yX2_path : MethodName := ⟨RX2, "path", "(I)I"⟩
def dkwX2_path_3 : List UInt8 := [21, 4, 27, 96, 54, 4, 167, 255, 211, 28, 172]
abbrev dktX2_path_3 : List UInt8 := dkwX2_path_3 ++ []
def dkwX2_path_2 : List UInt8 := [27, 182, 1, 146, 54, 5, 28, 21, 5, 29, 159, 0, 7, 4, 167, 0, 4, 3, 96, 61, 21, 5, 62]
abbrev dktX2_path_2 : List UInt8 := dkwX2_path_2 ++ dktX2_path_3
def dkwX2_path_1 : List UInt8 := [27, 182, 1, 146, 62, 27, 54, 4, 21, 4, 27, 96, 42, 180, 0, 17, 5, 46, 163, 0, 38, 42, 21, 4]
abbrev dktX2_path_1 : List UInt8 := dkwX2_path_1 ++ dktX2_path_2
def dkwX2_path_0 : List UInt8 := [42, 27, 7, 42, 180, 0, 17, 5, 46, 184, 0, 96, 182, 1, 84, 154, 0, 5, 3, 172, 3, 61, 42, 3]
abbrev dktX2_path_0 : List UInt8 := dkwX2_path_0 ++ dktX2_path_1
theorem dksX2_path_0 : cX2_path.data.toList.drop 0 = dktX2_path_0 := by decide +kernel
theorem dksX2_path_1 : cX2_path.data.toList.drop 24 = dktX2_path_1 := dk_seg dksX2_path_0 24 rfl rfl
theorem dksX2_path_2 : cX2_path.data.toList.drop 48 = dktX2_path_2 := dk_seg dksX2_path_1 24 rfl rfl
theorem dksX2_path_3 : cX2_path.data.toList.drop 71 = dktX2_path_3 := dk_seg dksX2_path_2 23 rfl rfl
theorem dX2_path_0 : decode cX2_path 0 = .ok (.aload_n 0, 1) := dk_42 (dk_at dksX2_path_0 0 rfl rfl)
theorem dX2_path_1 : decode cX2_path 1 = .ok (.iload_n 1, 1) := dk_27 (dk_at dksX2_path_0 1 rfl rfl)
theorem dX2_path_2 : decode cX2_path 2 = .ok (.iconst 4, 1) := dk_7 (dk_at dksX2_path_0 2 rfl rfl)
theorem dX2_path_3 : decode cX2_path 3 = .ok (.aload_n 0, 1) := dk_42 (dk_at dksX2_path_0 3 rfl rfl)
theorem dX2_path_4 : decode cX2_path 4 = .ok (.getfield 17, 3) := dk_180 0 17 (dk_at dksX2_path_0 4 rfl rfl)
theorem dX2_path_7 : decode cX2_path 7 = .ok (.iconst 2, 1) := dk_5 (dk_at dksX2_path_0 7 rfl rfl)
theorem dX2_path_8 : decode cX2_path 8 = .ok (.iaload, 1) := dk_46 (dk_at dksX2_path_0 8 rfl rfl)
theorem dX2_path_9 : decode cX2_path 9 = .ok (.invokestatic 96, 3) := dk_184 0 96 (dk_at dksX2_path_0 9 rfl rfl)
theorem dX2_path_12 : decode cX2_path 12 = .ok (.invokevirtual 340, 3) := dk_182 1 84 (dk_at dksX2_path_0 12 rfl rfl)
theorem dX2_path_15 : decode cX2_path 15 = .ok (.ifCond .ne 5, 3) := dk_154 0 5 (dk_at dksX2_path_0 15 rfl rfl)
theorem dX2_path_18 : decode cX2_path 18 = .ok (.iconst 0, 1) := dk_3 (dk_at dksX2_path_0 18 rfl rfl)
theorem dX2_path_19 : decode cX2_path 19 = .ok (.ireturn, 1) := dk_172 (dk_at dksX2_path_0 19 rfl rfl)
theorem dX2_path_20 : decode cX2_path 20 = .ok (.iconst 0, 1) := dk_3 (dk_at dksX2_path_0 20 rfl rfl)
theorem dX2_path_21 : decode cX2_path 21 = .ok (.istore_n 2, 1) := dk_61 (dk_at dksX2_path_0 21 rfl rfl)
theorem dX2_path_22 : decode cX2_path 22 = .ok (.aload_n 0, 1) := dk_42 (dk_at dksX2_path_0 22 rfl rfl)
theorem dX2_path_23 : decode cX2_path 23 = .ok (.iconst 0, 1) := dk_3 (dk_at dksX2_path_0 23 rfl rfl)
theorem dX2_path_24 : decode cX2_path 24 = .ok (.iload_n 1, 1) := dk_27 (dk_at dksX2_path_1 0 rfl rfl)
theorem dX2_path_25 : decode cX2_path 25 = .ok (.invokevirtual 402, 3) := dk_182 1 146 (dk_at dksX2_path_1 1 rfl rfl)
theorem dX2_path_28 : decode cX2_path 28 = .ok (.istore_n 3, 1) := dk_62 (dk_at dksX2_path_1 4 rfl rfl)
theorem dX2_path_29 : decode cX2_path 29 = .ok (.iload_n 1, 1) := dk_27 (dk_at dksX2_path_1 5 rfl rfl)
theorem dX2_path_30 : decode cX2_path 30 = .ok (.istore 4, 2) := dk_54 4 (dk_at dksX2_path_1 6 rfl rfl)
theorem dX2_path_32 : decode cX2_path 32 = .ok (.iload 4, 2) := dk_21 4 (dk_at dksX2_path_1 8 rfl rfl)
theorem dX2_path_34 : decode cX2_path 34 = .ok (.iload_n 1, 1) := dk_27 (dk_at dksX2_path_1 10 rfl rfl)
theorem dX2_path_35 : decode cX2_path 35 = .ok (.iadd, 1) := dk_96 (dk_at dksX2_path_1 11 rfl rfl)
theorem dX2_path_36 : decode cX2_path 36 = .ok (.aload_n 0, 1) := dk_42 (dk_at dksX2_path_1 12 rfl rfl)
theorem dX2_path_37 : decode cX2_path 37 = .ok (.getfield 17, 3) := dk_180 0 17 (dk_at dksX2_path_1 13 rfl rfl)
theorem dX2_path_40 : decode cX2_path 40 = .ok (.iconst 2, 1) := dk_5 (dk_at dksX2_path_1 16 rfl rfl)
theorem dX2_path_41 : decode cX2_path 41 = .ok (.iaload, 1) := dk_46 (dk_at dksX2_path_1 17 rfl rfl)
theorem dX2_path_42 : decode cX2_path 42 = .ok (.if_icmp .gt 38, 3) := dk_163 0 38 (dk_at dksX2_path_1 18 rfl rfl)
theorem dX2_path_45 : decode cX2_path 45 = .ok (.aload_n 0, 1) := dk_42 (dk_at dksX2_path_1 21 rfl rfl)
theorem dX2_path_46 : decode cX2_path 46 = .ok (.iload 4, 2) := dk_21 4 (dk_at dksX2_path_1 22 rfl rfl)
theorem dX2_path_48 : decode cX2_path 48 = .ok (.iload_n 1, 1) := dk_27 (dk_at dksX2_path_2 0 rfl rfl)
theorem dX2_path_49 : decode cX2_path 49 = .ok (.invokevirtual 402, 3) := dk_182 1 146 (dk_at dksX2_path_2 1 rfl rfl)
theorem dX2_path_52 : decode cX2_path 52 = .ok (.istore 5, 2) := dk_54 5 (dk_at dksX2_path_2 4 rfl rfl)
theorem dX2_path_54 : decode cX2_path 54 = .ok (.iload_n 2, 1) := dk_28 (dk_at dksX2_path_2 6 rfl rfl)
theorem dX2_path_55 : decode cX2_path 55 = .ok (.iload 5, 2) := dk_21 5 (dk_at dksX2_path_2 7 rfl rfl)
theorem dX2_path_57 : decode cX2_path 57 = .ok (.iload_n 3, 1) := dk_29 (dk_at dksX2_path_2 9 rfl rfl)
theorem dX2_path_58 : decode cX2_path 58 = .ok (.if_icmp .eq 7, 3) := dk_159 0 7 (dk_at dksX2_path_2 10 rfl rfl)
theorem dX2_path_61 : decode cX2_path 61 = .ok (.iconst 1, 1) := dk_4 (dk_at dksX2_path_2 13 rfl rfl)
theorem dX2_path_62 : decode cX2_path 62 = .ok (.goto 4, 3) := dk_167 0 4 (dk_at dksX2_path_2 14 rfl rfl)
theorem dX2_path_65 : decode cX2_path 65 = .ok (.iconst 0, 1) := dk_3 (dk_at dksX2_path_2 17 rfl rfl)
theorem dX2_path_66 : decode cX2_path 66 = .ok (.iadd, 1) := dk_96 (dk_at dksX2_path_2 18 rfl rfl)
theorem dX2_path_67 : decode cX2_path 67 = .ok (.istore_n 2, 1) := dk_61 (dk_at dksX2_path_2 19 rfl rfl)
theorem dX2_path_68 : decode cX2_path 68 = .ok (.iload 5, 2) := dk_21 5 (dk_at dksX2_path_2 20 rfl rfl)
theorem dX2_path_70 : decode cX2_path 70 = .ok (.istore_n 3, 1) := dk_62 (dk_at dksX2_path_2 22 rfl rfl)
theorem dX2_path_71 : decode cX2_path 71 = .ok (.iload 4, 2) := dk_21 4 (dk_at dksX2_path_3 0 rfl rfl)
theorem dX2_path_73 : decode cX2_path 73 = .ok (.iload_n 1, 1) := dk_27 (dk_at dksX2_path_3 2 rfl rfl)
theorem dX2_path_74 : decode cX2_path 74 = .ok (.iadd, 1) := dk_96 (dk_at dksX2_path_3 3 rfl rfl)
theorem dX2_path_75 : decode cX2_path 75 = .ok (.istore 4, 2) := dk_54 4 (dk_at dksX2_path_3 4 rfl rfl)
theorem dX2_path_77 : decode cX2_path 77 = .ok (.goto (-45), 3) := dk_167 255 211 (dk_at dksX2_path_3 6 rfl rfl)
theorem dX2_path_80 : decode cX2_path 80 = .ok (.iload_n 2, 1) := dk_28 (dk_at dksX2_path_3 9 rfl rfl)
theorem dX2_path_81 : decode cX2_path 81 = .ok (.ireturn, 1) := dk_172 (dk_at dksX2_path_3 10 rfl rfl)
abbrev cX2_trackScore : ByteArray := prog_15_method_117_code
def yX2_trackScore : MethodName := ⟨RX2, "trackScore", "(I)J"⟩
def dkwX2_trackScore_1 : List UInt8 := [3, 2, 182, 1, 155, 47, 173]
abbrev dktX2_trackScore_1 : List UInt8 := dkwX2_trackScore_1 ++ []
def dkwX2_trackScore_0 : List UInt8 := [42, 42, 27, 182, 1, 158, 182, 1, 84, 154, 0, 5, 9, 173, 42, 27, 182, 1, 161, 42, 180, 0, 58, 42]
abbrev dktX2_trackScore_0 : List UInt8 := dkwX2_trackScore_0 ++ dktX2_trackScore_1
theorem dksX2_trackScore_0 : cX2_trackScore.data.toList.drop 0 = dktX2_trackScore_0 := by decide +kernel
theorem dksX2_trackScore_1 : cX2_trackScore.data.toList.drop 24 = dktX2_trackScore_1 := dk_seg dksX2_trackScore_0 24 rfl rfl
theorem dX2_trackScore_0 : decode cX2_trackScore 0 = .ok (.aload_n 0, 1) := dk_42 (dk_at dksX2_trackScore_0 0 rfl rfl)
theorem dX2_trackScore_1 : decode cX2_trackScore 1 = .ok (.aload_n 0, 1) := dk_42 (dk_at dksX2_trackScore_0 1 rfl rfl)
theorem dX2_trackScore_2 : decode cX2_trackScore 2 = .ok (.iload_n 1, 1) := dk_27 (dk_at dksX2_trackScore_0 2 rfl rfl)
theorem dX2_trackScore_3 : decode cX2_trackScore 3 = .ok (.invokevirtual 414, 3) := dk_182 1 158 (dk_at dksX2_trackScore_0 3 rfl rfl)
theorem dX2_trackScore_6 : decode cX2_trackScore 6 = .ok (.invokevirtual 340, 3) := dk_182 1 84 (dk_at dksX2_trackScore_0 6 rfl rfl)
theorem dX2_trackScore_9 : decode cX2_trackScore 9 = .ok (.ifCond .ne 5, 3) := dk_154 0 5 (dk_at dksX2_trackScore_0 9 rfl rfl)
theorem dX2_trackScore_12 : decode cX2_trackScore 12 = .ok (.lconst 0, 1) := dk_9 (dk_at dksX2_trackScore_0 12 rfl rfl)
theorem dX2_trackScore_13 : decode cX2_trackScore 13 = .ok (.lreturn, 1) := dk_173 (dk_at dksX2_trackScore_0 13 rfl rfl)
theorem dX2_trackScore_14 : decode cX2_trackScore 14 = .ok (.aload_n 0, 1) := dk_42 (dk_at dksX2_trackScore_0 14 rfl rfl)
theorem dX2_trackScore_15 : decode cX2_trackScore 15 = .ok (.iload_n 1, 1) := dk_27 (dk_at dksX2_trackScore_0 15 rfl rfl)
theorem dX2_trackScore_16 : decode cX2_trackScore 16 = .ok (.invokevirtual 417, 3) := dk_182 1 161 (dk_at dksX2_trackScore_0 16 rfl rfl)
theorem dX2_trackScore_19 : decode cX2_trackScore 19 = .ok (.aload_n 0, 1) := dk_42 (dk_at dksX2_trackScore_0 19 rfl rfl)
theorem dX2_trackScore_20 : decode cX2_trackScore 20 = .ok (.getfield 58, 3) := dk_180 0 58 (dk_at dksX2_trackScore_0 20 rfl rfl)
theorem dX2_trackScore_23 : decode cX2_trackScore 23 = .ok (.aload_n 0, 1) := dk_42 (dk_at dksX2_trackScore_0 23 rfl rfl)
theorem dX2_trackScore_24 : decode cX2_trackScore 24 = .ok (.iconst 0, 1) := dk_3 (dk_at dksX2_trackScore_1 0 rfl rfl)
theorem dX2_trackScore_25 : decode cX2_trackScore 25 = .ok (.iconst (-1), 1) := dk_2 (dk_at dksX2_trackScore_1 1 rfl rfl)
theorem dX2_trackScore_26 : decode cX2_trackScore 26 = .ok (.invokevirtual 411, 3) := dk_182 1 155 (dk_at dksX2_trackScore_1 2 rfl rfl)
theorem dX2_trackScore_29 : decode cX2_trackScore 29 = .ok (.laload, 1) := dk_47 (dk_at dksX2_trackScore_1 5 rfl rfl)
theorem dX2_trackScore_30 : decode cX2_trackScore 30 = .ok (.lreturn, 1) := dk_173 (dk_at dksX2_trackScore_1 6 rfl rfl)
abbrev cX2_isLength : ByteArray := prog_15_method_116_code
def yX2_isLength : MethodName := ⟨RX2, "isLength", "(I)Z"⟩
def dkwX2_isLength_0 : List UInt8 := [27, 7, 42, 180, 0, 17, 5, 46, 184, 0, 96, 172]
abbrev dktX2_isLength_0 : List UInt8 := dkwX2_isLength_0 ++ []
theorem dksX2_isLength_0 : cX2_isLength.data.toList.drop 0 = dktX2_isLength_0 := by decide +kernel
theorem dX2_isLength_0 : decode cX2_isLength 0 = .ok (.iload_n 1, 1) := dk_27 (dk_at dksX2_isLength_0 0 rfl rfl)
theorem dX2_isLength_1 : decode cX2_isLength 1 = .ok (.iconst 4, 1) := dk_7 (dk_at dksX2_isLength_0 1 rfl rfl)
theorem dX2_isLength_2 : decode cX2_isLength 2 = .ok (.aload_n 0, 1) := dk_42 (dk_at dksX2_isLength_0 2 rfl rfl)
theorem dX2_isLength_3 : decode cX2_isLength 3 = .ok (.getfield 17, 3) := dk_180 0 17 (dk_at dksX2_isLength_0 3 rfl rfl)
theorem dX2_isLength_6 : decode cX2_isLength 6 = .ok (.iconst 2, 1) := dk_5 (dk_at dksX2_isLength_0 6 rfl rfl)
theorem dX2_isLength_7 : decode cX2_isLength 7 = .ok (.iaload, 1) := dk_46 (dk_at dksX2_isLength_0 7 rfl rfl)
theorem dX2_isLength_8 : decode cX2_isLength 8 = .ok (.invokestatic 96, 3) := dk_184 0 96 (dk_at dksX2_isLength_0 8 rfl rfl)
theorem dX2_isLength_11 : decode cX2_isLength 11 = .ok (.ireturn, 1) := dk_172 (dk_at dksX2_isLength_0 11 rfl rfl)
abbrev cX2_laysScores : ByteArray := prog_15_method_115_code
def yX2_laysScores : MethodName := ⟨RX2, "laysScores", "(I)V"⟩
def dkwX2_laysScores_4 : List UInt8 := [132, 4, 1, 167, 255, 190, 132, 2, 255, 167, 255, 160, 177]
abbrev dktX2_laysScores_4 : List UInt8 := dkwX2_laysScores_4 ++ []
def dkwX2_laysScores_3 : List UInt8 := [180, 0, 58, 17, 0, 144, 28, 4, 96, 104, 42, 28, 4, 96, 21, 4, 182, 1, 155, 96, 47, 97, 80]
abbrev dktX2_laysScores_3 : List UInt8 := dkwX2_laysScores_3 ++ dktX2_laysScores_4
def dkwX2_laysScores_2 : List UInt8 := [28, 104, 21, 4, 96, 42, 21, 4, 27, 28, 104, 27, 182, 1, 142, 29, 153, 0, 7, 9, 167, 0, 25, 42]
abbrev dktX2_laysScores_2 : List UInt8 := dkwX2_laysScores_2 ++ dktX2_laysScores_3
def dkwX2_laysScores_1 : List UInt8 := [167, 0, 4, 3, 62, 3, 54, 4, 21, 4, 42, 182, 0, 237, 162, 0, 63, 42, 180, 0, 58, 17, 0, 144]
abbrev dktX2_laysScores_1 : List UInt8 := dkwX2_laysScores_1 ++ dktX2_laysScores_2
def dkwX2_laysScores_0 : List UInt8 := [42, 27, 182, 1, 152, 4, 100, 61, 28, 155, 0, 98, 28, 42, 27, 182, 1, 152, 4, 100, 160, 0, 7, 4]
abbrev dktX2_laysScores_0 : List UInt8 := dkwX2_laysScores_0 ++ dktX2_laysScores_1
theorem dksX2_laysScores_0 : cX2_laysScores.data.toList.drop 0 = dktX2_laysScores_0 := by decide +kernel
theorem dksX2_laysScores_1 : cX2_laysScores.data.toList.drop 24 = dktX2_laysScores_1 := dk_seg dksX2_laysScores_0 24 rfl rfl
theorem dksX2_laysScores_2 : cX2_laysScores.data.toList.drop 48 = dktX2_laysScores_2 := dk_seg dksX2_laysScores_1 24 rfl rfl
theorem dksX2_laysScores_3 : cX2_laysScores.data.toList.drop 72 = dktX2_laysScores_3 := dk_seg dksX2_laysScores_2 24 rfl rfl
theorem dksX2_laysScores_4 : cX2_laysScores.data.toList.drop 95 = dktX2_laysScores_4 := dk_seg dksX2_laysScores_3 23 rfl rfl
theorem dX2_laysScores_0 : decode cX2_laysScores 0 = .ok (.aload_n 0, 1) := dk_42 (dk_at dksX2_laysScores_0 0 rfl rfl)
theorem dX2_laysScores_1 : decode cX2_laysScores 1 = .ok (.iload_n 1, 1) := dk_27 (dk_at dksX2_laysScores_0 1 rfl rfl)
theorem dX2_laysScores_2 : decode cX2_laysScores 2 = .ok (.invokevirtual 408, 3) := dk_182 1 152 (dk_at dksX2_laysScores_0 2 rfl rfl)
theorem dX2_laysScores_5 : decode cX2_laysScores 5 = .ok (.iconst 1, 1) := dk_4 (dk_at dksX2_laysScores_0 5 rfl rfl)
theorem dX2_laysScores_6 : decode cX2_laysScores 6 = .ok (.isub, 1) := dk_100 (dk_at dksX2_laysScores_0 6 rfl rfl)
theorem dX2_laysScores_7 : decode cX2_laysScores 7 = .ok (.istore_n 2, 1) := dk_61 (dk_at dksX2_laysScores_0 7 rfl rfl)
theorem dX2_laysScores_8 : decode cX2_laysScores 8 = .ok (.iload_n 2, 1) := dk_28 (dk_at dksX2_laysScores_0 8 rfl rfl)
theorem dX2_laysScores_9 : decode cX2_laysScores 9 = .ok (.ifCond .lt 98, 3) := dk_155 0 98 (dk_at dksX2_laysScores_0 9 rfl rfl)
theorem dX2_laysScores_12 : decode cX2_laysScores 12 = .ok (.iload_n 2, 1) := dk_28 (dk_at dksX2_laysScores_0 12 rfl rfl)
theorem dX2_laysScores_13 : decode cX2_laysScores 13 = .ok (.aload_n 0, 1) := dk_42 (dk_at dksX2_laysScores_0 13 rfl rfl)
theorem dX2_laysScores_14 : decode cX2_laysScores 14 = .ok (.iload_n 1, 1) := dk_27 (dk_at dksX2_laysScores_0 14 rfl rfl)
theorem dX2_laysScores_15 : decode cX2_laysScores 15 = .ok (.invokevirtual 408, 3) := dk_182 1 152 (dk_at dksX2_laysScores_0 15 rfl rfl)
theorem dX2_laysScores_18 : decode cX2_laysScores 18 = .ok (.iconst 1, 1) := dk_4 (dk_at dksX2_laysScores_0 18 rfl rfl)
theorem dX2_laysScores_19 : decode cX2_laysScores 19 = .ok (.isub, 1) := dk_100 (dk_at dksX2_laysScores_0 19 rfl rfl)
theorem dX2_laysScores_20 : decode cX2_laysScores 20 = .ok (.if_icmp .ne 7, 3) := dk_160 0 7 (dk_at dksX2_laysScores_0 20 rfl rfl)
theorem dX2_laysScores_23 : decode cX2_laysScores 23 = .ok (.iconst 1, 1) := dk_4 (dk_at dksX2_laysScores_0 23 rfl rfl)
theorem dX2_laysScores_24 : decode cX2_laysScores 24 = .ok (.goto 4, 3) := dk_167 0 4 (dk_at dksX2_laysScores_1 0 rfl rfl)
theorem dX2_laysScores_27 : decode cX2_laysScores 27 = .ok (.iconst 0, 1) := dk_3 (dk_at dksX2_laysScores_1 3 rfl rfl)
theorem dX2_laysScores_28 : decode cX2_laysScores 28 = .ok (.istore_n 3, 1) := dk_62 (dk_at dksX2_laysScores_1 4 rfl rfl)
theorem dX2_laysScores_29 : decode cX2_laysScores 29 = .ok (.iconst 0, 1) := dk_3 (dk_at dksX2_laysScores_1 5 rfl rfl)
theorem dX2_laysScores_30 : decode cX2_laysScores 30 = .ok (.istore 4, 2) := dk_54 4 (dk_at dksX2_laysScores_1 6 rfl rfl)
theorem dX2_laysScores_32 : decode cX2_laysScores 32 = .ok (.iload 4, 2) := dk_21 4 (dk_at dksX2_laysScores_1 8 rfl rfl)
theorem dX2_laysScores_34 : decode cX2_laysScores 34 = .ok (.aload_n 0, 1) := dk_42 (dk_at dksX2_laysScores_1 10 rfl rfl)
theorem dX2_laysScores_35 : decode cX2_laysScores 35 = .ok (.invokevirtual 237, 3) := dk_182 0 237 (dk_at dksX2_laysScores_1 11 rfl rfl)
theorem dX2_laysScores_38 : decode cX2_laysScores 38 = .ok (.if_icmp .ge 63, 3) := dk_162 0 63 (dk_at dksX2_laysScores_1 14 rfl rfl)
theorem dX2_laysScores_41 : decode cX2_laysScores 41 = .ok (.aload_n 0, 1) := dk_42 (dk_at dksX2_laysScores_1 17 rfl rfl)
theorem dX2_laysScores_42 : decode cX2_laysScores 42 = .ok (.getfield 58, 3) := dk_180 0 58 (dk_at dksX2_laysScores_1 18 rfl rfl)
theorem dX2_laysScores_45 : decode cX2_laysScores 45 = .ok (.sipush 144, 3) := dk_17 0 144 (dk_at dksX2_laysScores_1 21 rfl rfl)
theorem dX2_laysScores_48 : decode cX2_laysScores 48 = .ok (.iload_n 2, 1) := dk_28 (dk_at dksX2_laysScores_2 0 rfl rfl)
theorem dX2_laysScores_49 : decode cX2_laysScores 49 = .ok (.imul, 1) := dk_104 (dk_at dksX2_laysScores_2 1 rfl rfl)
theorem dX2_laysScores_50 : decode cX2_laysScores 50 = .ok (.iload 4, 2) := dk_21 4 (dk_at dksX2_laysScores_2 2 rfl rfl)
theorem dX2_laysScores_52 : decode cX2_laysScores 52 = .ok (.iadd, 1) := dk_96 (dk_at dksX2_laysScores_2 4 rfl rfl)
theorem dX2_laysScores_53 : decode cX2_laysScores 53 = .ok (.aload_n 0, 1) := dk_42 (dk_at dksX2_laysScores_2 5 rfl rfl)
theorem dX2_laysScores_54 : decode cX2_laysScores 54 = .ok (.iload 4, 2) := dk_21 4 (dk_at dksX2_laysScores_2 6 rfl rfl)
theorem dX2_laysScores_56 : decode cX2_laysScores 56 = .ok (.iload_n 1, 1) := dk_27 (dk_at dksX2_laysScores_2 8 rfl rfl)
theorem dX2_laysScores_57 : decode cX2_laysScores 57 = .ok (.iload_n 2, 1) := dk_28 (dk_at dksX2_laysScores_2 9 rfl rfl)
theorem dX2_laysScores_58 : decode cX2_laysScores 58 = .ok (.imul, 1) := dk_104 (dk_at dksX2_laysScores_2 10 rfl rfl)
theorem dX2_laysScores_59 : decode cX2_laysScores 59 = .ok (.iload_n 1, 1) := dk_27 (dk_at dksX2_laysScores_2 11 rfl rfl)
theorem dX2_laysScores_60 : decode cX2_laysScores 60 = .ok (.invokevirtual 398, 3) := dk_182 1 142 (dk_at dksX2_laysScores_2 12 rfl rfl)
theorem dX2_laysScores_63 : decode cX2_laysScores 63 = .ok (.iload_n 3, 1) := dk_29 (dk_at dksX2_laysScores_2 15 rfl rfl)
theorem dX2_laysScores_64 : decode cX2_laysScores 64 = .ok (.ifCond .eq 7, 3) := dk_153 0 7 (dk_at dksX2_laysScores_2 16 rfl rfl)
theorem dX2_laysScores_67 : decode cX2_laysScores 67 = .ok (.lconst 0, 1) := dk_9 (dk_at dksX2_laysScores_2 19 rfl rfl)
theorem dX2_laysScores_68 : decode cX2_laysScores 68 = .ok (.goto 25, 3) := dk_167 0 25 (dk_at dksX2_laysScores_2 20 rfl rfl)
theorem dX2_laysScores_71 : decode cX2_laysScores 71 = .ok (.aload_n 0, 1) := dk_42 (dk_at dksX2_laysScores_2 23 rfl rfl)
theorem dX2_laysScores_72 : decode cX2_laysScores 72 = .ok (.getfield 58, 3) := dk_180 0 58 (dk_at dksX2_laysScores_3 0 rfl rfl)
theorem dX2_laysScores_75 : decode cX2_laysScores 75 = .ok (.sipush 144, 3) := dk_17 0 144 (dk_at dksX2_laysScores_3 3 rfl rfl)
theorem dX2_laysScores_78 : decode cX2_laysScores 78 = .ok (.iload_n 2, 1) := dk_28 (dk_at dksX2_laysScores_3 6 rfl rfl)
theorem dX2_laysScores_79 : decode cX2_laysScores 79 = .ok (.iconst 1, 1) := dk_4 (dk_at dksX2_laysScores_3 7 rfl rfl)
theorem dX2_laysScores_80 : decode cX2_laysScores 80 = .ok (.iadd, 1) := dk_96 (dk_at dksX2_laysScores_3 8 rfl rfl)
theorem dX2_laysScores_81 : decode cX2_laysScores 81 = .ok (.imul, 1) := dk_104 (dk_at dksX2_laysScores_3 9 rfl rfl)
theorem dX2_laysScores_82 : decode cX2_laysScores 82 = .ok (.aload_n 0, 1) := dk_42 (dk_at dksX2_laysScores_3 10 rfl rfl)
theorem dX2_laysScores_83 : decode cX2_laysScores 83 = .ok (.iload_n 2, 1) := dk_28 (dk_at dksX2_laysScores_3 11 rfl rfl)
theorem dX2_laysScores_84 : decode cX2_laysScores 84 = .ok (.iconst 1, 1) := dk_4 (dk_at dksX2_laysScores_3 12 rfl rfl)
theorem dX2_laysScores_85 : decode cX2_laysScores 85 = .ok (.iadd, 1) := dk_96 (dk_at dksX2_laysScores_3 13 rfl rfl)
theorem dX2_laysScores_86 : decode cX2_laysScores 86 = .ok (.iload 4, 2) := dk_21 4 (dk_at dksX2_laysScores_3 14 rfl rfl)
theorem dX2_laysScores_88 : decode cX2_laysScores 88 = .ok (.invokevirtual 411, 3) := dk_182 1 155 (dk_at dksX2_laysScores_3 16 rfl rfl)
theorem dX2_laysScores_91 : decode cX2_laysScores 91 = .ok (.iadd, 1) := dk_96 (dk_at dksX2_laysScores_3 19 rfl rfl)
theorem dX2_laysScores_92 : decode cX2_laysScores 92 = .ok (.laload, 1) := dk_47 (dk_at dksX2_laysScores_3 20 rfl rfl)
theorem dX2_laysScores_93 : decode cX2_laysScores 93 = .ok (.ladd, 1) := dk_97 (dk_at dksX2_laysScores_3 21 rfl rfl)
theorem dX2_laysScores_94 : decode cX2_laysScores 94 = .ok (.lastore, 1) := dk_80 (dk_at dksX2_laysScores_3 22 rfl rfl)
theorem dX2_laysScores_95 : decode cX2_laysScores 95 = .ok (.iinc 4 1, 3) := dk_132 4 1 (dk_at dksX2_laysScores_4 0 rfl rfl)
theorem dX2_laysScores_98 : decode cX2_laysScores 98 = .ok (.goto (-66), 3) := dk_167 255 190 (dk_at dksX2_laysScores_4 3 rfl rfl)
theorem dX2_laysScores_101 : decode cX2_laysScores 101 = .ok (.iinc 2 (-1), 3) := dk_132 2 255 (dk_at dksX2_laysScores_4 6 rfl rfl)
theorem dX2_laysScores_104 : decode cX2_laysScores 104 = .ok (.goto (-96), 3) := dk_167 255 160 (dk_at dksX2_laysScores_4 9 rfl rfl)
theorem dX2_laysScores_107 : decode cX2_laysScores 107 = .ok (.return_, 1) := dk_177 (dk_at dksX2_laysScores_4 12 rfl rfl)
abbrev cX2_blockCount : ByteArray := prog_15_method_112_code
def yX2_blockCount : MethodName := ⟨RX2, "blockCount", "(I)I"⟩
def dkwX2_blockCount_0 : List UInt8 := [42, 180, 0, 17, 5, 46, 27, 108, 172]
abbrev dktX2_blockCount_0 : List UInt8 := dkwX2_blockCount_0 ++ []
theorem dksX2_blockCount_0 : cX2_blockCount.data.toList.drop 0 = dktX2_blockCount_0 := by decide +kernel
theorem dX2_blockCount_0 : decode cX2_blockCount 0 = .ok (.aload_n 0, 1) := dk_42 (dk_at dksX2_blockCount_0 0 rfl rfl)
theorem dX2_blockCount_1 : decode cX2_blockCount 1 = .ok (.getfield 17, 3) := dk_180 0 17 (dk_at dksX2_blockCount_0 1 rfl rfl)
theorem dX2_blockCount_4 : decode cX2_blockCount 4 = .ok (.iconst 2, 1) := dk_5 (dk_at dksX2_blockCount_0 4 rfl rfl)
theorem dX2_blockCount_5 : decode cX2_blockCount 5 = .ok (.iaload, 1) := dk_46 (dk_at dksX2_blockCount_0 5 rfl rfl)
theorem dX2_blockCount_6 : decode cX2_blockCount 6 = .ok (.iload_n 1, 1) := dk_27 (dk_at dksX2_blockCount_0 6 rfl rfl)
theorem dX2_blockCount_7 : decode cX2_blockCount 7 = .ok (.idiv, 1) := dk_108 (dk_at dksX2_blockCount_0 7 rfl rfl)
theorem dX2_blockCount_8 : decode cX2_blockCount 8 = .ok (.ireturn, 1) := dk_172 (dk_at dksX2_blockCount_0 8 rfl rfl)
abbrev cX2_bestBehind : ByteArray := prog_15_method_114_code
def yX2_bestBehind : MethodName := ⟨RX2, "bestBehind", "(II)I"⟩
def dkwX2_bestBehind_3 : List UInt8 := [132, 4, 1, 167, 255, 189, 29, 172]
abbrev dktX2_bestBehind_3 : List UInt8 := dkwX2_bestBehind_3 ++ []
def dkwX2_bestBehind_2 : List UInt8 := [42, 180, 0, 58, 17, 0, 144, 27, 104, 29, 96, 47, 148, 157, 0, 6, 167, 0, 6, 21, 4, 62]
abbrev dktX2_bestBehind_2 : List UInt8 := dkwX2_bestBehind_2 ++ dktX2_bestBehind_3
def dkwX2_bestBehind_1 : List UInt8 := [182, 1, 149, 153, 0, 43, 29, 2, 159, 0, 35, 42, 180, 0, 58, 17, 0, 144, 27, 104, 21, 4, 96, 47]
abbrev dktX2_bestBehind_1 : List UInt8 := dkwX2_bestBehind_1 ++ dktX2_bestBehind_2
def dkwX2_bestBehind_0 : List UInt8 := [2, 62, 3, 54, 4, 21, 4, 42, 182, 0, 237, 162, 0, 64, 28, 2, 159, 0, 13, 42, 28, 21, 4]
abbrev dktX2_bestBehind_0 : List UInt8 := dkwX2_bestBehind_0 ++ dktX2_bestBehind_1
theorem dksX2_bestBehind_0 : cX2_bestBehind.data.toList.drop 0 = dktX2_bestBehind_0 := by decide +kernel
theorem dksX2_bestBehind_1 : cX2_bestBehind.data.toList.drop 23 = dktX2_bestBehind_1 := dk_seg dksX2_bestBehind_0 23 rfl rfl
theorem dksX2_bestBehind_2 : cX2_bestBehind.data.toList.drop 47 = dktX2_bestBehind_2 := dk_seg dksX2_bestBehind_1 24 rfl rfl
theorem dksX2_bestBehind_3 : cX2_bestBehind.data.toList.drop 69 = dktX2_bestBehind_3 := dk_seg dksX2_bestBehind_2 22 rfl rfl
theorem dX2_bestBehind_0 : decode cX2_bestBehind 0 = .ok (.iconst (-1), 1) := dk_2 (dk_at dksX2_bestBehind_0 0 rfl rfl)
theorem dX2_bestBehind_1 : decode cX2_bestBehind 1 = .ok (.istore_n 3, 1) := dk_62 (dk_at dksX2_bestBehind_0 1 rfl rfl)
theorem dX2_bestBehind_2 : decode cX2_bestBehind 2 = .ok (.iconst 0, 1) := dk_3 (dk_at dksX2_bestBehind_0 2 rfl rfl)
theorem dX2_bestBehind_3 : decode cX2_bestBehind 3 = .ok (.istore 4, 2) := dk_54 4 (dk_at dksX2_bestBehind_0 3 rfl rfl)
theorem dX2_bestBehind_5 : decode cX2_bestBehind 5 = .ok (.iload 4, 2) := dk_21 4 (dk_at dksX2_bestBehind_0 5 rfl rfl)
theorem dX2_bestBehind_7 : decode cX2_bestBehind 7 = .ok (.aload_n 0, 1) := dk_42 (dk_at dksX2_bestBehind_0 7 rfl rfl)
theorem dX2_bestBehind_8 : decode cX2_bestBehind 8 = .ok (.invokevirtual 237, 3) := dk_182 0 237 (dk_at dksX2_bestBehind_0 8 rfl rfl)
theorem dX2_bestBehind_11 : decode cX2_bestBehind 11 = .ok (.if_icmp .ge 64, 3) := dk_162 0 64 (dk_at dksX2_bestBehind_0 11 rfl rfl)
theorem dX2_bestBehind_14 : decode cX2_bestBehind 14 = .ok (.iload_n 2, 1) := dk_28 (dk_at dksX2_bestBehind_0 14 rfl rfl)
theorem dX2_bestBehind_15 : decode cX2_bestBehind 15 = .ok (.iconst (-1), 1) := dk_2 (dk_at dksX2_bestBehind_0 15 rfl rfl)
theorem dX2_bestBehind_16 : decode cX2_bestBehind 16 = .ok (.if_icmp .eq 13, 3) := dk_159 0 13 (dk_at dksX2_bestBehind_0 16 rfl rfl)
theorem dX2_bestBehind_19 : decode cX2_bestBehind 19 = .ok (.aload_n 0, 1) := dk_42 (dk_at dksX2_bestBehind_0 19 rfl rfl)
theorem dX2_bestBehind_20 : decode cX2_bestBehind 20 = .ok (.iload_n 2, 1) := dk_28 (dk_at dksX2_bestBehind_0 20 rfl rfl)
theorem dX2_bestBehind_21 : decode cX2_bestBehind 21 = .ok (.iload 4, 2) := dk_21 4 (dk_at dksX2_bestBehind_0 21 rfl rfl)
theorem dX2_bestBehind_23 : decode cX2_bestBehind 23 = .ok (.invokevirtual 405, 3) := dk_182 1 149 (dk_at dksX2_bestBehind_1 0 rfl rfl)
theorem dX2_bestBehind_26 : decode cX2_bestBehind 26 = .ok (.ifCond .eq 43, 3) := dk_153 0 43 (dk_at dksX2_bestBehind_1 3 rfl rfl)
theorem dX2_bestBehind_29 : decode cX2_bestBehind 29 = .ok (.iload_n 3, 1) := dk_29 (dk_at dksX2_bestBehind_1 6 rfl rfl)
theorem dX2_bestBehind_30 : decode cX2_bestBehind 30 = .ok (.iconst (-1), 1) := dk_2 (dk_at dksX2_bestBehind_1 7 rfl rfl)
theorem dX2_bestBehind_31 : decode cX2_bestBehind 31 = .ok (.if_icmp .eq 35, 3) := dk_159 0 35 (dk_at dksX2_bestBehind_1 8 rfl rfl)
theorem dX2_bestBehind_34 : decode cX2_bestBehind 34 = .ok (.aload_n 0, 1) := dk_42 (dk_at dksX2_bestBehind_1 11 rfl rfl)
theorem dX2_bestBehind_35 : decode cX2_bestBehind 35 = .ok (.getfield 58, 3) := dk_180 0 58 (dk_at dksX2_bestBehind_1 12 rfl rfl)
theorem dX2_bestBehind_38 : decode cX2_bestBehind 38 = .ok (.sipush 144, 3) := dk_17 0 144 (dk_at dksX2_bestBehind_1 15 rfl rfl)
theorem dX2_bestBehind_41 : decode cX2_bestBehind 41 = .ok (.iload_n 1, 1) := dk_27 (dk_at dksX2_bestBehind_1 18 rfl rfl)
theorem dX2_bestBehind_42 : decode cX2_bestBehind 42 = .ok (.imul, 1) := dk_104 (dk_at dksX2_bestBehind_1 19 rfl rfl)
theorem dX2_bestBehind_43 : decode cX2_bestBehind 43 = .ok (.iload 4, 2) := dk_21 4 (dk_at dksX2_bestBehind_1 20 rfl rfl)
theorem dX2_bestBehind_45 : decode cX2_bestBehind 45 = .ok (.iadd, 1) := dk_96 (dk_at dksX2_bestBehind_1 22 rfl rfl)
theorem dX2_bestBehind_46 : decode cX2_bestBehind 46 = .ok (.laload, 1) := dk_47 (dk_at dksX2_bestBehind_1 23 rfl rfl)
theorem dX2_bestBehind_47 : decode cX2_bestBehind 47 = .ok (.aload_n 0, 1) := dk_42 (dk_at dksX2_bestBehind_2 0 rfl rfl)
theorem dX2_bestBehind_48 : decode cX2_bestBehind 48 = .ok (.getfield 58, 3) := dk_180 0 58 (dk_at dksX2_bestBehind_2 1 rfl rfl)
theorem dX2_bestBehind_51 : decode cX2_bestBehind 51 = .ok (.sipush 144, 3) := dk_17 0 144 (dk_at dksX2_bestBehind_2 4 rfl rfl)
theorem dX2_bestBehind_54 : decode cX2_bestBehind 54 = .ok (.iload_n 1, 1) := dk_27 (dk_at dksX2_bestBehind_2 7 rfl rfl)
theorem dX2_bestBehind_55 : decode cX2_bestBehind 55 = .ok (.imul, 1) := dk_104 (dk_at dksX2_bestBehind_2 8 rfl rfl)
theorem dX2_bestBehind_56 : decode cX2_bestBehind 56 = .ok (.iload_n 3, 1) := dk_29 (dk_at dksX2_bestBehind_2 9 rfl rfl)
theorem dX2_bestBehind_57 : decode cX2_bestBehind 57 = .ok (.iadd, 1) := dk_96 (dk_at dksX2_bestBehind_2 10 rfl rfl)
theorem dX2_bestBehind_58 : decode cX2_bestBehind 58 = .ok (.laload, 1) := dk_47 (dk_at dksX2_bestBehind_2 11 rfl rfl)
theorem dX2_bestBehind_59 : decode cX2_bestBehind 59 = .ok (.lcmp, 1) := dk_148 (dk_at dksX2_bestBehind_2 12 rfl rfl)
theorem dX2_bestBehind_60 : decode cX2_bestBehind 60 = .ok (.ifCond .gt 6, 3) := dk_157 0 6 (dk_at dksX2_bestBehind_2 13 rfl rfl)
theorem dX2_bestBehind_63 : decode cX2_bestBehind 63 = .ok (.goto 6, 3) := dk_167 0 6 (dk_at dksX2_bestBehind_2 16 rfl rfl)
theorem dX2_bestBehind_66 : decode cX2_bestBehind 66 = .ok (.iload 4, 2) := dk_21 4 (dk_at dksX2_bestBehind_2 19 rfl rfl)
theorem dX2_bestBehind_68 : decode cX2_bestBehind 68 = .ok (.istore_n 3, 1) := dk_62 (dk_at dksX2_bestBehind_2 21 rfl rfl)
theorem dX2_bestBehind_69 : decode cX2_bestBehind 69 = .ok (.iinc 4 1, 3) := dk_132 4 1 (dk_at dksX2_bestBehind_3 0 rfl rfl)
theorem dX2_bestBehind_72 : decode cX2_bestBehind 72 = .ok (.goto (-67), 3) := dk_167 255 189 (dk_at dksX2_bestBehind_3 3 rfl rfl)
theorem dX2_bestBehind_75 : decode cX2_bestBehind 75 = .ok (.iload_n 3, 1) := dk_29 (dk_at dksX2_bestBehind_3 6 rfl rfl)
theorem dX2_bestBehind_76 : decode cX2_bestBehind 76 = .ok (.ireturn, 1) := dk_172 (dk_at dksX2_bestBehind_3 7 rfl rfl)
abbrev cX2_areNear : ByteArray := prog_15_method_113_code
def yX2_areNear : MethodName := ⟨RX2, "areNear", "(II)Z"⟩
def dkwX2_areNear_2 : List UInt8 := [184, 1, 6, 4, 163, 0, 7, 4, 167, 0, 4, 3, 172]
abbrev dktX2_areNear_2 : List UInt8 := dkwX2_areNear_2 ++ []
def dkwX2_areNear_1 : List UInt8 := [163, 0, 33, 27, 42, 180, 0, 17, 16, 9, 46, 108, 28, 42, 180, 0, 17, 16, 9, 46, 108, 100]
abbrev dktX2_areNear_1 : List UInt8 := dkwX2_areNear_1 ++ dktX2_areNear_2
def dkwX2_areNear_0 : List UInt8 := [27, 42, 180, 0, 17, 16, 9, 46, 112, 28, 42, 180, 0, 17, 16, 9, 46, 112, 100, 184, 1, 6, 4]
abbrev dktX2_areNear_0 : List UInt8 := dkwX2_areNear_0 ++ dktX2_areNear_1
theorem dksX2_areNear_0 : cX2_areNear.data.toList.drop 0 = dktX2_areNear_0 := by decide +kernel
theorem dksX2_areNear_1 : cX2_areNear.data.toList.drop 23 = dktX2_areNear_1 := dk_seg dksX2_areNear_0 23 rfl rfl
theorem dksX2_areNear_2 : cX2_areNear.data.toList.drop 45 = dktX2_areNear_2 := dk_seg dksX2_areNear_1 22 rfl rfl
theorem dX2_areNear_0 : decode cX2_areNear 0 = .ok (.iload_n 1, 1) := dk_27 (dk_at dksX2_areNear_0 0 rfl rfl)
theorem dX2_areNear_1 : decode cX2_areNear 1 = .ok (.aload_n 0, 1) := dk_42 (dk_at dksX2_areNear_0 1 rfl rfl)
theorem dX2_areNear_2 : decode cX2_areNear 2 = .ok (.getfield 17, 3) := dk_180 0 17 (dk_at dksX2_areNear_0 2 rfl rfl)
theorem dX2_areNear_5 : decode cX2_areNear 5 = .ok (.bipush 9, 2) := dk_16 9 (dk_at dksX2_areNear_0 5 rfl rfl)
theorem dX2_areNear_7 : decode cX2_areNear 7 = .ok (.iaload, 1) := dk_46 (dk_at dksX2_areNear_0 7 rfl rfl)
theorem dX2_areNear_8 : decode cX2_areNear 8 = .ok (.irem, 1) := dk_112 (dk_at dksX2_areNear_0 8 rfl rfl)
theorem dX2_areNear_9 : decode cX2_areNear 9 = .ok (.iload_n 2, 1) := dk_28 (dk_at dksX2_areNear_0 9 rfl rfl)
theorem dX2_areNear_10 : decode cX2_areNear 10 = .ok (.aload_n 0, 1) := dk_42 (dk_at dksX2_areNear_0 10 rfl rfl)
theorem dX2_areNear_11 : decode cX2_areNear 11 = .ok (.getfield 17, 3) := dk_180 0 17 (dk_at dksX2_areNear_0 11 rfl rfl)
theorem dX2_areNear_14 : decode cX2_areNear 14 = .ok (.bipush 9, 2) := dk_16 9 (dk_at dksX2_areNear_0 14 rfl rfl)
theorem dX2_areNear_16 : decode cX2_areNear 16 = .ok (.iaload, 1) := dk_46 (dk_at dksX2_areNear_0 16 rfl rfl)
theorem dX2_areNear_17 : decode cX2_areNear 17 = .ok (.irem, 1) := dk_112 (dk_at dksX2_areNear_0 17 rfl rfl)
theorem dX2_areNear_18 : decode cX2_areNear 18 = .ok (.isub, 1) := dk_100 (dk_at dksX2_areNear_0 18 rfl rfl)
theorem dX2_areNear_19 : decode cX2_areNear 19 = .ok (.invokestatic 262, 3) := dk_184 1 6 (dk_at dksX2_areNear_0 19 rfl rfl)
theorem dX2_areNear_22 : decode cX2_areNear 22 = .ok (.iconst 1, 1) := dk_4 (dk_at dksX2_areNear_0 22 rfl rfl)
theorem dX2_areNear_23 : decode cX2_areNear 23 = .ok (.if_icmp .gt 33, 3) := dk_163 0 33 (dk_at dksX2_areNear_1 0 rfl rfl)
theorem dX2_areNear_26 : decode cX2_areNear 26 = .ok (.iload_n 1, 1) := dk_27 (dk_at dksX2_areNear_1 3 rfl rfl)
theorem dX2_areNear_27 : decode cX2_areNear 27 = .ok (.aload_n 0, 1) := dk_42 (dk_at dksX2_areNear_1 4 rfl rfl)
theorem dX2_areNear_28 : decode cX2_areNear 28 = .ok (.getfield 17, 3) := dk_180 0 17 (dk_at dksX2_areNear_1 5 rfl rfl)
theorem dX2_areNear_31 : decode cX2_areNear 31 = .ok (.bipush 9, 2) := dk_16 9 (dk_at dksX2_areNear_1 8 rfl rfl)
theorem dX2_areNear_33 : decode cX2_areNear 33 = .ok (.iaload, 1) := dk_46 (dk_at dksX2_areNear_1 10 rfl rfl)
theorem dX2_areNear_34 : decode cX2_areNear 34 = .ok (.idiv, 1) := dk_108 (dk_at dksX2_areNear_1 11 rfl rfl)
theorem dX2_areNear_35 : decode cX2_areNear 35 = .ok (.iload_n 2, 1) := dk_28 (dk_at dksX2_areNear_1 12 rfl rfl)
theorem dX2_areNear_36 : decode cX2_areNear 36 = .ok (.aload_n 0, 1) := dk_42 (dk_at dksX2_areNear_1 13 rfl rfl)
theorem dX2_areNear_37 : decode cX2_areNear 37 = .ok (.getfield 17, 3) := dk_180 0 17 (dk_at dksX2_areNear_1 14 rfl rfl)
theorem dX2_areNear_40 : decode cX2_areNear 40 = .ok (.bipush 9, 2) := dk_16 9 (dk_at dksX2_areNear_1 17 rfl rfl)
theorem dX2_areNear_42 : decode cX2_areNear 42 = .ok (.iaload, 1) := dk_46 (dk_at dksX2_areNear_1 19 rfl rfl)
theorem dX2_areNear_43 : decode cX2_areNear 43 = .ok (.idiv, 1) := dk_108 (dk_at dksX2_areNear_1 20 rfl rfl)
theorem dX2_areNear_44 : decode cX2_areNear 44 = .ok (.isub, 1) := dk_100 (dk_at dksX2_areNear_1 21 rfl rfl)
theorem dX2_areNear_45 : decode cX2_areNear 45 = .ok (.invokestatic 262, 3) := dk_184 1 6 (dk_at dksX2_areNear_2 0 rfl rfl)
theorem dX2_areNear_48 : decode cX2_areNear 48 = .ok (.iconst 1, 1) := dk_4 (dk_at dksX2_areNear_2 3 rfl rfl)
theorem dX2_areNear_49 : decode cX2_areNear 49 = .ok (.if_icmp .gt 7, 3) := dk_163 0 7 (dk_at dksX2_areNear_2 4 rfl rfl)
theorem dX2_areNear_52 : decode cX2_areNear 52 = .ok (.iconst 1, 1) := dk_4 (dk_at dksX2_areNear_2 7 rfl rfl)
theorem dX2_areNear_53 : decode cX2_areNear 53 = .ok (.goto 4, 3) := dk_167 0 4 (dk_at dksX2_areNear_2 8 rfl rfl)
theorem dX2_areNear_56 : decode cX2_areNear 56 = .ok (.iconst 0, 1) := dk_3 (dk_at dksX2_areNear_2 11 rfl rfl)
theorem dX2_areNear_57 : decode cX2_areNear 57 = .ok (.ireturn, 1) := dk_172 (dk_at dksX2_areNear_2 12 rfl rfl)
abbrev cX2_trackCell : ByteArray := prog_15_method_118_code
def yX2_trackCell : MethodName := ⟨RX2, "trackCell", "(II)I"⟩
def dkwX2_trackCell_3 : List UInt8 := [182, 1, 155, 62, 132, 4, 1, 167, 255, 239, 29, 172]
abbrev dktX2_trackCell_3 : List UInt8 := dkwX2_trackCell_3 ++ []
def dkwX2_trackCell_2 : List UInt8 := [182, 0, 227, 172, 42, 27, 182, 1, 161, 2, 62, 3, 54, 4, 21, 4, 28, 163, 0, 17, 42, 21, 4, 29]
abbrev dktX2_trackCell_2 : List UInt8 := dkwX2_trackCell_2 ++ dktX2_trackCell_3
def dkwX2_trackCell_1 : List UInt8 := [4, 167, 0, 4, 3, 182, 1, 84, 154, 0, 5, 3, 172, 42, 27, 182, 1, 158, 154, 0, 9, 42, 6]
abbrev dktX2_trackCell_1 : List UInt8 := dkwX2_trackCell_1 ++ dktX2_trackCell_2
def dkwX2_trackCell_0 : List UInt8 := [42, 42, 27, 182, 1, 158, 153, 0, 18, 28, 3, 42, 27, 182, 1, 152, 4, 100, 184, 0, 96, 153, 0, 7]
abbrev dktX2_trackCell_0 : List UInt8 := dkwX2_trackCell_0 ++ dktX2_trackCell_1
theorem dksX2_trackCell_0 : cX2_trackCell.data.toList.drop 0 = dktX2_trackCell_0 := by decide +kernel
theorem dksX2_trackCell_1 : cX2_trackCell.data.toList.drop 24 = dktX2_trackCell_1 := dk_seg dksX2_trackCell_0 24 rfl rfl
theorem dksX2_trackCell_2 : cX2_trackCell.data.toList.drop 47 = dktX2_trackCell_2 := dk_seg dksX2_trackCell_1 23 rfl rfl
theorem dksX2_trackCell_3 : cX2_trackCell.data.toList.drop 71 = dktX2_trackCell_3 := dk_seg dksX2_trackCell_2 24 rfl rfl
theorem dX2_trackCell_0 : decode cX2_trackCell 0 = .ok (.aload_n 0, 1) := dk_42 (dk_at dksX2_trackCell_0 0 rfl rfl)
theorem dX2_trackCell_1 : decode cX2_trackCell 1 = .ok (.aload_n 0, 1) := dk_42 (dk_at dksX2_trackCell_0 1 rfl rfl)
theorem dX2_trackCell_2 : decode cX2_trackCell 2 = .ok (.iload_n 1, 1) := dk_27 (dk_at dksX2_trackCell_0 2 rfl rfl)
theorem dX2_trackCell_3 : decode cX2_trackCell 3 = .ok (.invokevirtual 414, 3) := dk_182 1 158 (dk_at dksX2_trackCell_0 3 rfl rfl)
theorem dX2_trackCell_6 : decode cX2_trackCell 6 = .ok (.ifCond .eq 18, 3) := dk_153 0 18 (dk_at dksX2_trackCell_0 6 rfl rfl)
theorem dX2_trackCell_9 : decode cX2_trackCell 9 = .ok (.iload_n 2, 1) := dk_28 (dk_at dksX2_trackCell_0 9 rfl rfl)
theorem dX2_trackCell_10 : decode cX2_trackCell 10 = .ok (.iconst 0, 1) := dk_3 (dk_at dksX2_trackCell_0 10 rfl rfl)
theorem dX2_trackCell_11 : decode cX2_trackCell 11 = .ok (.aload_n 0, 1) := dk_42 (dk_at dksX2_trackCell_0 11 rfl rfl)
theorem dX2_trackCell_12 : decode cX2_trackCell 12 = .ok (.iload_n 1, 1) := dk_27 (dk_at dksX2_trackCell_0 12 rfl rfl)
theorem dX2_trackCell_13 : decode cX2_trackCell 13 = .ok (.invokevirtual 408, 3) := dk_182 1 152 (dk_at dksX2_trackCell_0 13 rfl rfl)
theorem dX2_trackCell_16 : decode cX2_trackCell 16 = .ok (.iconst 1, 1) := dk_4 (dk_at dksX2_trackCell_0 16 rfl rfl)
theorem dX2_trackCell_17 : decode cX2_trackCell 17 = .ok (.isub, 1) := dk_100 (dk_at dksX2_trackCell_0 17 rfl rfl)
theorem dX2_trackCell_18 : decode cX2_trackCell 18 = .ok (.invokestatic 96, 3) := dk_184 0 96 (dk_at dksX2_trackCell_0 18 rfl rfl)
theorem dX2_trackCell_21 : decode cX2_trackCell 21 = .ok (.ifCond .eq 7, 3) := dk_153 0 7 (dk_at dksX2_trackCell_0 21 rfl rfl)
theorem dX2_trackCell_24 : decode cX2_trackCell 24 = .ok (.iconst 1, 1) := dk_4 (dk_at dksX2_trackCell_1 0 rfl rfl)
theorem dX2_trackCell_25 : decode cX2_trackCell 25 = .ok (.goto 4, 3) := dk_167 0 4 (dk_at dksX2_trackCell_1 1 rfl rfl)
theorem dX2_trackCell_28 : decode cX2_trackCell 28 = .ok (.iconst 0, 1) := dk_3 (dk_at dksX2_trackCell_1 4 rfl rfl)
theorem dX2_trackCell_29 : decode cX2_trackCell 29 = .ok (.invokevirtual 340, 3) := dk_182 1 84 (dk_at dksX2_trackCell_1 5 rfl rfl)
theorem dX2_trackCell_32 : decode cX2_trackCell 32 = .ok (.ifCond .ne 5, 3) := dk_154 0 5 (dk_at dksX2_trackCell_1 8 rfl rfl)
theorem dX2_trackCell_35 : decode cX2_trackCell 35 = .ok (.iconst 0, 1) := dk_3 (dk_at dksX2_trackCell_1 11 rfl rfl)
theorem dX2_trackCell_36 : decode cX2_trackCell 36 = .ok (.ireturn, 1) := dk_172 (dk_at dksX2_trackCell_1 12 rfl rfl)
theorem dX2_trackCell_37 : decode cX2_trackCell 37 = .ok (.aload_n 0, 1) := dk_42 (dk_at dksX2_trackCell_1 13 rfl rfl)
theorem dX2_trackCell_38 : decode cX2_trackCell 38 = .ok (.iload_n 1, 1) := dk_27 (dk_at dksX2_trackCell_1 14 rfl rfl)
theorem dX2_trackCell_39 : decode cX2_trackCell 39 = .ok (.invokevirtual 414, 3) := dk_182 1 158 (dk_at dksX2_trackCell_1 15 rfl rfl)
theorem dX2_trackCell_42 : decode cX2_trackCell 42 = .ok (.ifCond .ne 9, 3) := dk_154 0 9 (dk_at dksX2_trackCell_1 18 rfl rfl)
theorem dX2_trackCell_45 : decode cX2_trackCell 45 = .ok (.aload_n 0, 1) := dk_42 (dk_at dksX2_trackCell_1 21 rfl rfl)
theorem dX2_trackCell_46 : decode cX2_trackCell 46 = .ok (.iconst 3, 1) := dk_6 (dk_at dksX2_trackCell_1 22 rfl rfl)
theorem dX2_trackCell_47 : decode cX2_trackCell 47 = .ok (.invokevirtual 227, 3) := dk_182 0 227 (dk_at dksX2_trackCell_2 0 rfl rfl)
theorem dX2_trackCell_50 : decode cX2_trackCell 50 = .ok (.ireturn, 1) := dk_172 (dk_at dksX2_trackCell_2 3 rfl rfl)
theorem dX2_trackCell_51 : decode cX2_trackCell 51 = .ok (.aload_n 0, 1) := dk_42 (dk_at dksX2_trackCell_2 4 rfl rfl)
theorem dX2_trackCell_52 : decode cX2_trackCell 52 = .ok (.iload_n 1, 1) := dk_27 (dk_at dksX2_trackCell_2 5 rfl rfl)
theorem dX2_trackCell_53 : decode cX2_trackCell 53 = .ok (.invokevirtual 417, 3) := dk_182 1 161 (dk_at dksX2_trackCell_2 6 rfl rfl)
theorem dX2_trackCell_56 : decode cX2_trackCell 56 = .ok (.iconst (-1), 1) := dk_2 (dk_at dksX2_trackCell_2 9 rfl rfl)
theorem dX2_trackCell_57 : decode cX2_trackCell 57 = .ok (.istore_n 3, 1) := dk_62 (dk_at dksX2_trackCell_2 10 rfl rfl)
theorem dX2_trackCell_58 : decode cX2_trackCell 58 = .ok (.iconst 0, 1) := dk_3 (dk_at dksX2_trackCell_2 11 rfl rfl)
theorem dX2_trackCell_59 : decode cX2_trackCell 59 = .ok (.istore 4, 2) := dk_54 4 (dk_at dksX2_trackCell_2 12 rfl rfl)
theorem dX2_trackCell_61 : decode cX2_trackCell 61 = .ok (.iload 4, 2) := dk_21 4 (dk_at dksX2_trackCell_2 14 rfl rfl)
theorem dX2_trackCell_63 : decode cX2_trackCell 63 = .ok (.iload_n 2, 1) := dk_28 (dk_at dksX2_trackCell_2 16 rfl rfl)
theorem dX2_trackCell_64 : decode cX2_trackCell 64 = .ok (.if_icmp .gt 17, 3) := dk_163 0 17 (dk_at dksX2_trackCell_2 17 rfl rfl)
theorem dX2_trackCell_67 : decode cX2_trackCell 67 = .ok (.aload_n 0, 1) := dk_42 (dk_at dksX2_trackCell_2 20 rfl rfl)
theorem dX2_trackCell_68 : decode cX2_trackCell 68 = .ok (.iload 4, 2) := dk_21 4 (dk_at dksX2_trackCell_2 21 rfl rfl)
theorem dX2_trackCell_70 : decode cX2_trackCell 70 = .ok (.iload_n 3, 1) := dk_29 (dk_at dksX2_trackCell_2 23 rfl rfl)
theorem dX2_trackCell_71 : decode cX2_trackCell 71 = .ok (.invokevirtual 411, 3) := dk_182 1 155 (dk_at dksX2_trackCell_3 0 rfl rfl)
theorem dX2_trackCell_74 : decode cX2_trackCell 74 = .ok (.istore_n 3, 1) := dk_62 (dk_at dksX2_trackCell_3 3 rfl rfl)
theorem dX2_trackCell_75 : decode cX2_trackCell 75 = .ok (.iinc 4 1, 3) := dk_132 4 1 (dk_at dksX2_trackCell_3 4 rfl rfl)
theorem dX2_trackCell_78 : decode cX2_trackCell 78 = .ok (.goto (-17), 3) := dk_167 255 239 (dk_at dksX2_trackCell_3 7 rfl rfl)
theorem dX2_trackCell_81 : decode cX2_trackCell 81 = .ok (.iload_n 3, 1) := dk_29 (dk_at dksX2_trackCell_3 10 rfl rfl)
theorem dX2_trackCell_82 : decode cX2_trackCell 82 = .ok (.ireturn, 1) := dk_172 (dk_at dksX2_trackCell_3 11 rfl rfl)
abbrev cX2_zonePower : ByteArray := prog_15_method_121_code
def yX2_zonePower : MethodName := ⟨RX2, "zonePower", "(I)J"⟩
def dkwX2_zonePower_2 : List UInt8 := [182, 1, 71, 167, 0, 4, 9, 97, 65, 132, 4, 1, 167, 255, 217, 32, 173]
abbrev dktX2_zonePower_2 : List UInt8 := dkwX2_zonePower_2 ++ []
def dkwX2_zonePower_1 : List UInt8 := [182, 0, 237, 162, 0, 36, 32, 42, 27, 21, 4, 182, 1, 167, 153, 0, 16, 42, 42, 180, 0, 23, 21, 4]
abbrev dktX2_zonePower_1 : List UInt8 := dkwX2_zonePower_1 ++ dktX2_zonePower_2
def dkwX2_zonePower_0 : List UInt8 := [42, 42, 27, 182, 1, 164, 182, 1, 84, 154, 0, 5, 9, 173, 9, 65, 3, 54, 4, 21, 4, 42]
abbrev dktX2_zonePower_0 : List UInt8 := dkwX2_zonePower_0 ++ dktX2_zonePower_1
theorem dksX2_zonePower_0 : cX2_zonePower.data.toList.drop 0 = dktX2_zonePower_0 := by decide +kernel
theorem dksX2_zonePower_1 : cX2_zonePower.data.toList.drop 22 = dktX2_zonePower_1 := dk_seg dksX2_zonePower_0 22 rfl rfl
theorem dksX2_zonePower_2 : cX2_zonePower.data.toList.drop 46 = dktX2_zonePower_2 := dk_seg dksX2_zonePower_1 24 rfl rfl
theorem dX2_zonePower_0 : decode cX2_zonePower 0 = .ok (.aload_n 0, 1) := dk_42 (dk_at dksX2_zonePower_0 0 rfl rfl)
theorem dX2_zonePower_1 : decode cX2_zonePower 1 = .ok (.aload_n 0, 1) := dk_42 (dk_at dksX2_zonePower_0 1 rfl rfl)
theorem dX2_zonePower_2 : decode cX2_zonePower 2 = .ok (.iload_n 1, 1) := dk_27 (dk_at dksX2_zonePower_0 2 rfl rfl)
theorem dX2_zonePower_3 : decode cX2_zonePower 3 = .ok (.invokevirtual 420, 3) := dk_182 1 164 (dk_at dksX2_zonePower_0 3 rfl rfl)
theorem dX2_zonePower_6 : decode cX2_zonePower 6 = .ok (.invokevirtual 340, 3) := dk_182 1 84 (dk_at dksX2_zonePower_0 6 rfl rfl)
theorem dX2_zonePower_9 : decode cX2_zonePower 9 = .ok (.ifCond .ne 5, 3) := dk_154 0 5 (dk_at dksX2_zonePower_0 9 rfl rfl)
theorem dX2_zonePower_12 : decode cX2_zonePower 12 = .ok (.lconst 0, 1) := dk_9 (dk_at dksX2_zonePower_0 12 rfl rfl)
theorem dX2_zonePower_13 : decode cX2_zonePower 13 = .ok (.lreturn, 1) := dk_173 (dk_at dksX2_zonePower_0 13 rfl rfl)
theorem dX2_zonePower_14 : decode cX2_zonePower 14 = .ok (.lconst 0, 1) := dk_9 (dk_at dksX2_zonePower_0 14 rfl rfl)
theorem dX2_zonePower_15 : decode cX2_zonePower 15 = .ok (.lstore_n 2, 1) := dk_65 (dk_at dksX2_zonePower_0 15 rfl rfl)
theorem dX2_zonePower_16 : decode cX2_zonePower 16 = .ok (.iconst 0, 1) := dk_3 (dk_at dksX2_zonePower_0 16 rfl rfl)
theorem dX2_zonePower_17 : decode cX2_zonePower 17 = .ok (.istore 4, 2) := dk_54 4 (dk_at dksX2_zonePower_0 17 rfl rfl)
theorem dX2_zonePower_19 : decode cX2_zonePower 19 = .ok (.iload 4, 2) := dk_21 4 (dk_at dksX2_zonePower_0 19 rfl rfl)
theorem dX2_zonePower_21 : decode cX2_zonePower 21 = .ok (.aload_n 0, 1) := dk_42 (dk_at dksX2_zonePower_0 21 rfl rfl)
theorem dX2_zonePower_22 : decode cX2_zonePower 22 = .ok (.invokevirtual 237, 3) := dk_182 0 237 (dk_at dksX2_zonePower_1 0 rfl rfl)
theorem dX2_zonePower_25 : decode cX2_zonePower 25 = .ok (.if_icmp .ge 36, 3) := dk_162 0 36 (dk_at dksX2_zonePower_1 3 rfl rfl)
theorem dX2_zonePower_28 : decode cX2_zonePower 28 = .ok (.lload_n 2, 1) := dk_32 (dk_at dksX2_zonePower_1 6 rfl rfl)
theorem dX2_zonePower_29 : decode cX2_zonePower 29 = .ok (.aload_n 0, 1) := dk_42 (dk_at dksX2_zonePower_1 7 rfl rfl)
theorem dX2_zonePower_30 : decode cX2_zonePower 30 = .ok (.iload_n 1, 1) := dk_27 (dk_at dksX2_zonePower_1 8 rfl rfl)
theorem dX2_zonePower_31 : decode cX2_zonePower 31 = .ok (.iload 4, 2) := dk_21 4 (dk_at dksX2_zonePower_1 9 rfl rfl)
theorem dX2_zonePower_33 : decode cX2_zonePower 33 = .ok (.invokevirtual 423, 3) := dk_182 1 167 (dk_at dksX2_zonePower_1 11 rfl rfl)
theorem dX2_zonePower_36 : decode cX2_zonePower 36 = .ok (.ifCond .eq 16, 3) := dk_153 0 16 (dk_at dksX2_zonePower_1 14 rfl rfl)
theorem dX2_zonePower_39 : decode cX2_zonePower 39 = .ok (.aload_n 0, 1) := dk_42 (dk_at dksX2_zonePower_1 17 rfl rfl)
theorem dX2_zonePower_40 : decode cX2_zonePower 40 = .ok (.aload_n 0, 1) := dk_42 (dk_at dksX2_zonePower_1 18 rfl rfl)
theorem dX2_zonePower_41 : decode cX2_zonePower 41 = .ok (.getfield 23, 3) := dk_180 0 23 (dk_at dksX2_zonePower_1 19 rfl rfl)
theorem dX2_zonePower_44 : decode cX2_zonePower 44 = .ok (.iload 4, 2) := dk_21 4 (dk_at dksX2_zonePower_1 22 rfl rfl)
theorem dX2_zonePower_46 : decode cX2_zonePower 46 = .ok (.invokevirtual 327, 3) := dk_182 1 71 (dk_at dksX2_zonePower_2 0 rfl rfl)
theorem dX2_zonePower_49 : decode cX2_zonePower 49 = .ok (.goto 4, 3) := dk_167 0 4 (dk_at dksX2_zonePower_2 3 rfl rfl)
theorem dX2_zonePower_52 : decode cX2_zonePower 52 = .ok (.lconst 0, 1) := dk_9 (dk_at dksX2_zonePower_2 6 rfl rfl)
theorem dX2_zonePower_53 : decode cX2_zonePower 53 = .ok (.ladd, 1) := dk_97 (dk_at dksX2_zonePower_2 7 rfl rfl)
theorem dX2_zonePower_54 : decode cX2_zonePower 54 = .ok (.lstore_n 2, 1) := dk_65 (dk_at dksX2_zonePower_2 8 rfl rfl)
theorem dX2_zonePower_55 : decode cX2_zonePower 55 = .ok (.iinc 4 1, 3) := dk_132 4 1 (dk_at dksX2_zonePower_2 9 rfl rfl)
theorem dX2_zonePower_58 : decode cX2_zonePower 58 = .ok (.goto (-39), 3) := dk_167 255 217 (dk_at dksX2_zonePower_2 12 rfl rfl)
theorem dX2_zonePower_61 : decode cX2_zonePower 61 = .ok (.lload_n 2, 1) := dk_32 (dk_at dksX2_zonePower_2 15 rfl rfl)
theorem dX2_zonePower_62 : decode cX2_zonePower 62 = .ok (.lreturn, 1) := dk_173 (dk_at dksX2_zonePower_2 16 rfl rfl)
abbrev cX2_isZone : ByteArray := prog_15_method_119_code
def yX2_isZone : MethodName := ⟨RX2, "isZone", "(I)Z"⟩
def dkwX2_isZone_0 : List UInt8 := [27, 3, 42, 180, 0, 17, 16, 101, 46, 4, 100, 184, 0, 96, 172]
abbrev dktX2_isZone_0 : List UInt8 := dkwX2_isZone_0 ++ []
theorem dksX2_isZone_0 : cX2_isZone.data.toList.drop 0 = dktX2_isZone_0 := by decide +kernel
theorem dX2_isZone_0 : decode cX2_isZone 0 = .ok (.iload_n 1, 1) := dk_27 (dk_at dksX2_isZone_0 0 rfl rfl)
theorem dX2_isZone_1 : decode cX2_isZone 1 = .ok (.iconst 0, 1) := dk_3 (dk_at dksX2_isZone_0 1 rfl rfl)
theorem dX2_isZone_2 : decode cX2_isZone 2 = .ok (.aload_n 0, 1) := dk_42 (dk_at dksX2_isZone_0 2 rfl rfl)
theorem dX2_isZone_3 : decode cX2_isZone 3 = .ok (.getfield 17, 3) := dk_180 0 17 (dk_at dksX2_isZone_0 3 rfl rfl)
theorem dX2_isZone_6 : decode cX2_isZone 6 = .ok (.bipush 101, 2) := dk_16 101 (dk_at dksX2_isZone_0 6 rfl rfl)
theorem dX2_isZone_8 : decode cX2_isZone 8 = .ok (.iaload, 1) := dk_46 (dk_at dksX2_isZone_0 8 rfl rfl)
theorem dX2_isZone_9 : decode cX2_isZone 9 = .ok (.iconst 1, 1) := dk_4 (dk_at dksX2_isZone_0 9 rfl rfl)
theorem dX2_isZone_10 : decode cX2_isZone 10 = .ok (.isub, 1) := dk_100 (dk_at dksX2_isZone_0 10 rfl rfl)
theorem dX2_isZone_11 : decode cX2_isZone 11 = .ok (.invokestatic 96, 3) := dk_184 0 96 (dk_at dksX2_isZone_0 11 rfl rfl)
theorem dX2_isZone_14 : decode cX2_isZone 14 = .ok (.ireturn, 1) := dk_172 (dk_at dksX2_isZone_0 14 rfl rfl)
abbrev cX2_isInZone : ByteArray := prog_15_method_120_code
def yX2_isInZone : MethodName := ⟨RX2, "isInZone", "(II)Z"⟩
def dkwX2_isInZone_3 : List UInt8 := [167, 0, 4, 3, 172]
abbrev dktX2_isInZone_3 : List UInt8 := dkwX2_isInZone_3 ++ []
def dkwX2_isInZone_2 : List UInt8 := [180, 0, 17, 29, 4, 96, 46, 42, 180, 0, 17, 29, 6, 96, 46, 184, 0, 96, 153, 0, 7, 4]
abbrev dktX2_isInZone_2 : List UInt8 := dkwX2_isInZone_2 ++ dktX2_isInZone_3
def dkwX2_isInZone_1 : List UInt8 := [180, 0, 17, 29, 5, 96, 46, 184, 0, 96, 153, 0, 38, 28, 42, 180, 0, 17, 16, 9, 46, 108, 42]
abbrev dktX2_isInZone_1 : List UInt8 := dkwX2_isInZone_1 ++ dktX2_isInZone_2
def dkwX2_isInZone_0 : List UInt8 := [16, 102, 7, 27, 104, 96, 62, 28, 42, 180, 0, 17, 16, 9, 46, 112, 42, 180, 0, 17, 29, 46, 42]
abbrev dktX2_isInZone_0 : List UInt8 := dkwX2_isInZone_0 ++ dktX2_isInZone_1
theorem dksX2_isInZone_0 : cX2_isInZone.data.toList.drop 0 = dktX2_isInZone_0 := by decide +kernel
theorem dksX2_isInZone_1 : cX2_isInZone.data.toList.drop 23 = dktX2_isInZone_1 := dk_seg dksX2_isInZone_0 23 rfl rfl
theorem dksX2_isInZone_2 : cX2_isInZone.data.toList.drop 46 = dktX2_isInZone_2 := dk_seg dksX2_isInZone_1 23 rfl rfl
theorem dksX2_isInZone_3 : cX2_isInZone.data.toList.drop 68 = dktX2_isInZone_3 := dk_seg dksX2_isInZone_2 22 rfl rfl
theorem dX2_isInZone_0 : decode cX2_isInZone 0 = .ok (.bipush 102, 2) := dk_16 102 (dk_at dksX2_isInZone_0 0 rfl rfl)
theorem dX2_isInZone_2 : decode cX2_isInZone 2 = .ok (.iconst 4, 1) := dk_7 (dk_at dksX2_isInZone_0 2 rfl rfl)
theorem dX2_isInZone_3 : decode cX2_isInZone 3 = .ok (.iload_n 1, 1) := dk_27 (dk_at dksX2_isInZone_0 3 rfl rfl)
theorem dX2_isInZone_4 : decode cX2_isInZone 4 = .ok (.imul, 1) := dk_104 (dk_at dksX2_isInZone_0 4 rfl rfl)
theorem dX2_isInZone_5 : decode cX2_isInZone 5 = .ok (.iadd, 1) := dk_96 (dk_at dksX2_isInZone_0 5 rfl rfl)
theorem dX2_isInZone_6 : decode cX2_isInZone 6 = .ok (.istore_n 3, 1) := dk_62 (dk_at dksX2_isInZone_0 6 rfl rfl)
theorem dX2_isInZone_7 : decode cX2_isInZone 7 = .ok (.iload_n 2, 1) := dk_28 (dk_at dksX2_isInZone_0 7 rfl rfl)
theorem dX2_isInZone_8 : decode cX2_isInZone 8 = .ok (.aload_n 0, 1) := dk_42 (dk_at dksX2_isInZone_0 8 rfl rfl)
theorem dX2_isInZone_9 : decode cX2_isInZone 9 = .ok (.getfield 17, 3) := dk_180 0 17 (dk_at dksX2_isInZone_0 9 rfl rfl)
theorem dX2_isInZone_12 : decode cX2_isInZone 12 = .ok (.bipush 9, 2) := dk_16 9 (dk_at dksX2_isInZone_0 12 rfl rfl)
theorem dX2_isInZone_14 : decode cX2_isInZone 14 = .ok (.iaload, 1) := dk_46 (dk_at dksX2_isInZone_0 14 rfl rfl)
theorem dX2_isInZone_15 : decode cX2_isInZone 15 = .ok (.irem, 1) := dk_112 (dk_at dksX2_isInZone_0 15 rfl rfl)
theorem dX2_isInZone_16 : decode cX2_isInZone 16 = .ok (.aload_n 0, 1) := dk_42 (dk_at dksX2_isInZone_0 16 rfl rfl)
theorem dX2_isInZone_17 : decode cX2_isInZone 17 = .ok (.getfield 17, 3) := dk_180 0 17 (dk_at dksX2_isInZone_0 17 rfl rfl)
theorem dX2_isInZone_20 : decode cX2_isInZone 20 = .ok (.iload_n 3, 1) := dk_29 (dk_at dksX2_isInZone_0 20 rfl rfl)
theorem dX2_isInZone_21 : decode cX2_isInZone 21 = .ok (.iaload, 1) := dk_46 (dk_at dksX2_isInZone_0 21 rfl rfl)
theorem dX2_isInZone_22 : decode cX2_isInZone 22 = .ok (.aload_n 0, 1) := dk_42 (dk_at dksX2_isInZone_0 22 rfl rfl)
theorem dX2_isInZone_23 : decode cX2_isInZone 23 = .ok (.getfield 17, 3) := dk_180 0 17 (dk_at dksX2_isInZone_1 0 rfl rfl)
theorem dX2_isInZone_26 : decode cX2_isInZone 26 = .ok (.iload_n 3, 1) := dk_29 (dk_at dksX2_isInZone_1 3 rfl rfl)
theorem dX2_isInZone_27 : decode cX2_isInZone 27 = .ok (.iconst 2, 1) := dk_5 (dk_at dksX2_isInZone_1 4 rfl rfl)
theorem dX2_isInZone_28 : decode cX2_isInZone 28 = .ok (.iadd, 1) := dk_96 (dk_at dksX2_isInZone_1 5 rfl rfl)
theorem dX2_isInZone_29 : decode cX2_isInZone 29 = .ok (.iaload, 1) := dk_46 (dk_at dksX2_isInZone_1 6 rfl rfl)
theorem dX2_isInZone_30 : decode cX2_isInZone 30 = .ok (.invokestatic 96, 3) := dk_184 0 96 (dk_at dksX2_isInZone_1 7 rfl rfl)
theorem dX2_isInZone_33 : decode cX2_isInZone 33 = .ok (.ifCond .eq 38, 3) := dk_153 0 38 (dk_at dksX2_isInZone_1 10 rfl rfl)
theorem dX2_isInZone_36 : decode cX2_isInZone 36 = .ok (.iload_n 2, 1) := dk_28 (dk_at dksX2_isInZone_1 13 rfl rfl)
theorem dX2_isInZone_37 : decode cX2_isInZone 37 = .ok (.aload_n 0, 1) := dk_42 (dk_at dksX2_isInZone_1 14 rfl rfl)
theorem dX2_isInZone_38 : decode cX2_isInZone 38 = .ok (.getfield 17, 3) := dk_180 0 17 (dk_at dksX2_isInZone_1 15 rfl rfl)
theorem dX2_isInZone_41 : decode cX2_isInZone 41 = .ok (.bipush 9, 2) := dk_16 9 (dk_at dksX2_isInZone_1 18 rfl rfl)
theorem dX2_isInZone_43 : decode cX2_isInZone 43 = .ok (.iaload, 1) := dk_46 (dk_at dksX2_isInZone_1 20 rfl rfl)
theorem dX2_isInZone_44 : decode cX2_isInZone 44 = .ok (.idiv, 1) := dk_108 (dk_at dksX2_isInZone_1 21 rfl rfl)
theorem dX2_isInZone_45 : decode cX2_isInZone 45 = .ok (.aload_n 0, 1) := dk_42 (dk_at dksX2_isInZone_1 22 rfl rfl)
theorem dX2_isInZone_46 : decode cX2_isInZone 46 = .ok (.getfield 17, 3) := dk_180 0 17 (dk_at dksX2_isInZone_2 0 rfl rfl)
theorem dX2_isInZone_49 : decode cX2_isInZone 49 = .ok (.iload_n 3, 1) := dk_29 (dk_at dksX2_isInZone_2 3 rfl rfl)
theorem dX2_isInZone_50 : decode cX2_isInZone 50 = .ok (.iconst 1, 1) := dk_4 (dk_at dksX2_isInZone_2 4 rfl rfl)
theorem dX2_isInZone_51 : decode cX2_isInZone 51 = .ok (.iadd, 1) := dk_96 (dk_at dksX2_isInZone_2 5 rfl rfl)
theorem dX2_isInZone_52 : decode cX2_isInZone 52 = .ok (.iaload, 1) := dk_46 (dk_at dksX2_isInZone_2 6 rfl rfl)
theorem dX2_isInZone_53 : decode cX2_isInZone 53 = .ok (.aload_n 0, 1) := dk_42 (dk_at dksX2_isInZone_2 7 rfl rfl)
theorem dX2_isInZone_54 : decode cX2_isInZone 54 = .ok (.getfield 17, 3) := dk_180 0 17 (dk_at dksX2_isInZone_2 8 rfl rfl)
theorem dX2_isInZone_57 : decode cX2_isInZone 57 = .ok (.iload_n 3, 1) := dk_29 (dk_at dksX2_isInZone_2 11 rfl rfl)
theorem dX2_isInZone_58 : decode cX2_isInZone 58 = .ok (.iconst 3, 1) := dk_6 (dk_at dksX2_isInZone_2 12 rfl rfl)
theorem dX2_isInZone_59 : decode cX2_isInZone 59 = .ok (.iadd, 1) := dk_96 (dk_at dksX2_isInZone_2 13 rfl rfl)
theorem dX2_isInZone_60 : decode cX2_isInZone 60 = .ok (.iaload, 1) := dk_46 (dk_at dksX2_isInZone_2 14 rfl rfl)
theorem dX2_isInZone_61 : decode cX2_isInZone 61 = .ok (.invokestatic 96, 3) := dk_184 0 96 (dk_at dksX2_isInZone_2 15 rfl rfl)
theorem dX2_isInZone_64 : decode cX2_isInZone 64 = .ok (.ifCond .eq 7, 3) := dk_153 0 7 (dk_at dksX2_isInZone_2 18 rfl rfl)
theorem dX2_isInZone_67 : decode cX2_isInZone 67 = .ok (.iconst 1, 1) := dk_4 (dk_at dksX2_isInZone_2 21 rfl rfl)
theorem dX2_isInZone_68 : decode cX2_isInZone 68 = .ok (.goto 4, 3) := dk_167 0 4 (dk_at dksX2_isInZone_3 0 rfl rfl)
theorem dX2_isInZone_71 : decode cX2_isInZone 71 = .ok (.iconst 0, 1) := dk_3 (dk_at dksX2_isInZone_3 3 rfl rfl)
theorem dX2_isInZone_72 : decode cX2_isInZone 72 = .ok (.ireturn, 1) := dk_172 (dk_at dksX2_isInZone_3 4 rfl rfl)
abbrev cX2_zoneBest : ByteArray := prog_15_method_122_code
def yX2_zoneBest : MethodName := ⟨RX2, "zoneBest", "(I)I"⟩
def dkwX2_zoneBest_3 : List UInt8 := [28, 172]
abbrev dktX2_zoneBest_3 : List UInt8 := dkwX2_zoneBest_3 ++ []
def dkwX2_zoneBest_2 : List UInt8 := [42, 180, 0, 54, 29, 47, 42, 180, 0, 54, 28, 47, 148, 158, 0, 5, 29, 61, 132, 3, 1, 167, 255, 213]
abbrev dktX2_zoneBest_2 : List UInt8 := dkwX2_zoneBest_2 ++ dktX2_zoneBest_3
def dkwX2_zoneBest_1 : List UInt8 := [3, 62, 29, 42, 182, 0, 237, 162, 0, 41, 42, 27, 29, 182, 1, 167, 153, 0, 26, 28, 2, 159, 0, 19]
abbrev dktX2_zoneBest_1 : List UInt8 := dkwX2_zoneBest_1 ++ dktX2_zoneBest_2
def dkwX2_zoneBest_0 : List UInt8 := [42, 42, 27, 182, 1, 164, 182, 1, 84, 154, 0, 5, 3, 172, 42, 42, 180, 0, 23, 182, 1, 75, 2, 61]
abbrev dktX2_zoneBest_0 : List UInt8 := dkwX2_zoneBest_0 ++ dktX2_zoneBest_1
theorem dksX2_zoneBest_0 : cX2_zoneBest.data.toList.drop 0 = dktX2_zoneBest_0 := by decide +kernel
theorem dksX2_zoneBest_1 : cX2_zoneBest.data.toList.drop 24 = dktX2_zoneBest_1 := dk_seg dksX2_zoneBest_0 24 rfl rfl
theorem dksX2_zoneBest_2 : cX2_zoneBest.data.toList.drop 48 = dktX2_zoneBest_2 := dk_seg dksX2_zoneBest_1 24 rfl rfl
theorem dksX2_zoneBest_3 : cX2_zoneBest.data.toList.drop 72 = dktX2_zoneBest_3 := dk_seg dksX2_zoneBest_2 24 rfl rfl
theorem dX2_zoneBest_0 : decode cX2_zoneBest 0 = .ok (.aload_n 0, 1) := dk_42 (dk_at dksX2_zoneBest_0 0 rfl rfl)
theorem dX2_zoneBest_1 : decode cX2_zoneBest 1 = .ok (.aload_n 0, 1) := dk_42 (dk_at dksX2_zoneBest_0 1 rfl rfl)
theorem dX2_zoneBest_2 : decode cX2_zoneBest 2 = .ok (.iload_n 1, 1) := dk_27 (dk_at dksX2_zoneBest_0 2 rfl rfl)
theorem dX2_zoneBest_3 : decode cX2_zoneBest 3 = .ok (.invokevirtual 420, 3) := dk_182 1 164 (dk_at dksX2_zoneBest_0 3 rfl rfl)
theorem dX2_zoneBest_6 : decode cX2_zoneBest 6 = .ok (.invokevirtual 340, 3) := dk_182 1 84 (dk_at dksX2_zoneBest_0 6 rfl rfl)
theorem dX2_zoneBest_9 : decode cX2_zoneBest 9 = .ok (.ifCond .ne 5, 3) := dk_154 0 5 (dk_at dksX2_zoneBest_0 9 rfl rfl)
theorem dX2_zoneBest_12 : decode cX2_zoneBest 12 = .ok (.iconst 0, 1) := dk_3 (dk_at dksX2_zoneBest_0 12 rfl rfl)
theorem dX2_zoneBest_13 : decode cX2_zoneBest 13 = .ok (.ireturn, 1) := dk_172 (dk_at dksX2_zoneBest_0 13 rfl rfl)
theorem dX2_zoneBest_14 : decode cX2_zoneBest 14 = .ok (.aload_n 0, 1) := dk_42 (dk_at dksX2_zoneBest_0 14 rfl rfl)
theorem dX2_zoneBest_15 : decode cX2_zoneBest 15 = .ok (.aload_n 0, 1) := dk_42 (dk_at dksX2_zoneBest_0 15 rfl rfl)
theorem dX2_zoneBest_16 : decode cX2_zoneBest 16 = .ok (.getfield 23, 3) := dk_180 0 23 (dk_at dksX2_zoneBest_0 16 rfl rfl)
theorem dX2_zoneBest_19 : decode cX2_zoneBest 19 = .ok (.invokevirtual 331, 3) := dk_182 1 75 (dk_at dksX2_zoneBest_0 19 rfl rfl)
theorem dX2_zoneBest_22 : decode cX2_zoneBest 22 = .ok (.iconst (-1), 1) := dk_2 (dk_at dksX2_zoneBest_0 22 rfl rfl)
theorem dX2_zoneBest_23 : decode cX2_zoneBest 23 = .ok (.istore_n 2, 1) := dk_61 (dk_at dksX2_zoneBest_0 23 rfl rfl)
theorem dX2_zoneBest_24 : decode cX2_zoneBest 24 = .ok (.iconst 0, 1) := dk_3 (dk_at dksX2_zoneBest_1 0 rfl rfl)
theorem dX2_zoneBest_25 : decode cX2_zoneBest 25 = .ok (.istore_n 3, 1) := dk_62 (dk_at dksX2_zoneBest_1 1 rfl rfl)
theorem dX2_zoneBest_26 : decode cX2_zoneBest 26 = .ok (.iload_n 3, 1) := dk_29 (dk_at dksX2_zoneBest_1 2 rfl rfl)
theorem dX2_zoneBest_27 : decode cX2_zoneBest 27 = .ok (.aload_n 0, 1) := dk_42 (dk_at dksX2_zoneBest_1 3 rfl rfl)
theorem dX2_zoneBest_28 : decode cX2_zoneBest 28 = .ok (.invokevirtual 237, 3) := dk_182 0 237 (dk_at dksX2_zoneBest_1 4 rfl rfl)
theorem dX2_zoneBest_31 : decode cX2_zoneBest 31 = .ok (.if_icmp .ge 41, 3) := dk_162 0 41 (dk_at dksX2_zoneBest_1 7 rfl rfl)
theorem dX2_zoneBest_34 : decode cX2_zoneBest 34 = .ok (.aload_n 0, 1) := dk_42 (dk_at dksX2_zoneBest_1 10 rfl rfl)
theorem dX2_zoneBest_35 : decode cX2_zoneBest 35 = .ok (.iload_n 1, 1) := dk_27 (dk_at dksX2_zoneBest_1 11 rfl rfl)
theorem dX2_zoneBest_36 : decode cX2_zoneBest 36 = .ok (.iload_n 3, 1) := dk_29 (dk_at dksX2_zoneBest_1 12 rfl rfl)
theorem dX2_zoneBest_37 : decode cX2_zoneBest 37 = .ok (.invokevirtual 423, 3) := dk_182 1 167 (dk_at dksX2_zoneBest_1 13 rfl rfl)
theorem dX2_zoneBest_40 : decode cX2_zoneBest 40 = .ok (.ifCond .eq 26, 3) := dk_153 0 26 (dk_at dksX2_zoneBest_1 16 rfl rfl)
theorem dX2_zoneBest_43 : decode cX2_zoneBest 43 = .ok (.iload_n 2, 1) := dk_28 (dk_at dksX2_zoneBest_1 19 rfl rfl)
theorem dX2_zoneBest_44 : decode cX2_zoneBest 44 = .ok (.iconst (-1), 1) := dk_2 (dk_at dksX2_zoneBest_1 20 rfl rfl)
theorem dX2_zoneBest_45 : decode cX2_zoneBest 45 = .ok (.if_icmp .eq 19, 3) := dk_159 0 19 (dk_at dksX2_zoneBest_1 21 rfl rfl)
theorem dX2_zoneBest_48 : decode cX2_zoneBest 48 = .ok (.aload_n 0, 1) := dk_42 (dk_at dksX2_zoneBest_2 0 rfl rfl)
theorem dX2_zoneBest_49 : decode cX2_zoneBest 49 = .ok (.getfield 54, 3) := dk_180 0 54 (dk_at dksX2_zoneBest_2 1 rfl rfl)
theorem dX2_zoneBest_52 : decode cX2_zoneBest 52 = .ok (.iload_n 3, 1) := dk_29 (dk_at dksX2_zoneBest_2 4 rfl rfl)
theorem dX2_zoneBest_53 : decode cX2_zoneBest 53 = .ok (.laload, 1) := dk_47 (dk_at dksX2_zoneBest_2 5 rfl rfl)
theorem dX2_zoneBest_54 : decode cX2_zoneBest 54 = .ok (.aload_n 0, 1) := dk_42 (dk_at dksX2_zoneBest_2 6 rfl rfl)
theorem dX2_zoneBest_55 : decode cX2_zoneBest 55 = .ok (.getfield 54, 3) := dk_180 0 54 (dk_at dksX2_zoneBest_2 7 rfl rfl)
theorem dX2_zoneBest_58 : decode cX2_zoneBest 58 = .ok (.iload_n 2, 1) := dk_28 (dk_at dksX2_zoneBest_2 10 rfl rfl)
theorem dX2_zoneBest_59 : decode cX2_zoneBest 59 = .ok (.laload, 1) := dk_47 (dk_at dksX2_zoneBest_2 11 rfl rfl)
theorem dX2_zoneBest_60 : decode cX2_zoneBest 60 = .ok (.lcmp, 1) := dk_148 (dk_at dksX2_zoneBest_2 12 rfl rfl)
theorem dX2_zoneBest_61 : decode cX2_zoneBest 61 = .ok (.ifCond .le 5, 3) := dk_158 0 5 (dk_at dksX2_zoneBest_2 13 rfl rfl)
theorem dX2_zoneBest_64 : decode cX2_zoneBest 64 = .ok (.iload_n 3, 1) := dk_29 (dk_at dksX2_zoneBest_2 16 rfl rfl)
theorem dX2_zoneBest_65 : decode cX2_zoneBest 65 = .ok (.istore_n 2, 1) := dk_61 (dk_at dksX2_zoneBest_2 17 rfl rfl)
theorem dX2_zoneBest_66 : decode cX2_zoneBest 66 = .ok (.iinc 3 1, 3) := dk_132 3 1 (dk_at dksX2_zoneBest_2 18 rfl rfl)
theorem dX2_zoneBest_69 : decode cX2_zoneBest 69 = .ok (.goto (-43), 3) := dk_167 255 213 (dk_at dksX2_zoneBest_2 21 rfl rfl)
theorem dX2_zoneBest_72 : decode cX2_zoneBest 72 = .ok (.iload_n 2, 1) := dk_28 (dk_at dksX2_zoneBest_3 0 rfl rfl)
theorem dX2_zoneBest_73 : decode cX2_zoneBest 73 = .ok (.ireturn, 1) := dk_172 (dk_at dksX2_zoneBest_3 1 rfl rfl)
abbrev cX2_movingPower : ByteArray := prog_15_method_125_code
def yX2_movingPower : MethodName := ⟨RX2, "movingPower", "(III)J"⟩
def dkwX2_movingPower_1 : List UInt8 := [28, 29, 182, 1, 173, 167, 0, 9, 42, 6, 182, 0, 227, 133, 173]
abbrev dktX2_movingPower_1 : List UInt8 := dkwX2_movingPower_1 ++ []
def dkwX2_movingPower_0 : List UInt8 := [42, 42, 27, 182, 1, 88, 182, 1, 84, 154, 0, 5, 9, 173, 28, 29, 184, 1, 170, 153, 0, 13, 42, 27]
abbrev dktX2_movingPower_0 : List UInt8 := dkwX2_movingPower_0 ++ dktX2_movingPower_1
theorem dksX2_movingPower_0 : cX2_movingPower.data.toList.drop 0 = dktX2_movingPower_0 := by decide +kernel
theorem dksX2_movingPower_1 : cX2_movingPower.data.toList.drop 24 = dktX2_movingPower_1 := dk_seg dksX2_movingPower_0 24 rfl rfl
theorem dX2_movingPower_0 : decode cX2_movingPower 0 = .ok (.aload_n 0, 1) := dk_42 (dk_at dksX2_movingPower_0 0 rfl rfl)
theorem dX2_movingPower_1 : decode cX2_movingPower 1 = .ok (.aload_n 0, 1) := dk_42 (dk_at dksX2_movingPower_0 1 rfl rfl)
theorem dX2_movingPower_2 : decode cX2_movingPower 2 = .ok (.iload_n 1, 1) := dk_27 (dk_at dksX2_movingPower_0 2 rfl rfl)
theorem dX2_movingPower_3 : decode cX2_movingPower 3 = .ok (.invokevirtual 344, 3) := dk_182 1 88 (dk_at dksX2_movingPower_0 3 rfl rfl)
theorem dX2_movingPower_6 : decode cX2_movingPower 6 = .ok (.invokevirtual 340, 3) := dk_182 1 84 (dk_at dksX2_movingPower_0 6 rfl rfl)
theorem dX2_movingPower_9 : decode cX2_movingPower 9 = .ok (.ifCond .ne 5, 3) := dk_154 0 5 (dk_at dksX2_movingPower_0 9 rfl rfl)
theorem dX2_movingPower_12 : decode cX2_movingPower 12 = .ok (.lconst 0, 1) := dk_9 (dk_at dksX2_movingPower_0 12 rfl rfl)
theorem dX2_movingPower_13 : decode cX2_movingPower 13 = .ok (.lreturn, 1) := dk_173 (dk_at dksX2_movingPower_0 13 rfl rfl)
theorem dX2_movingPower_14 : decode cX2_movingPower 14 = .ok (.iload_n 2, 1) := dk_28 (dk_at dksX2_movingPower_0 14 rfl rfl)
theorem dX2_movingPower_15 : decode cX2_movingPower 15 = .ok (.iload_n 3, 1) := dk_29 (dk_at dksX2_movingPower_0 15 rfl rfl)
theorem dX2_movingPower_16 : decode cX2_movingPower 16 = .ok (.invokestatic 426, 3) := dk_184 1 170 (dk_at dksX2_movingPower_0 16 rfl rfl)
theorem dX2_movingPower_19 : decode cX2_movingPower 19 = .ok (.ifCond .eq 13, 3) := dk_153 0 13 (dk_at dksX2_movingPower_0 19 rfl rfl)
theorem dX2_movingPower_22 : decode cX2_movingPower 22 = .ok (.aload_n 0, 1) := dk_42 (dk_at dksX2_movingPower_0 22 rfl rfl)
theorem dX2_movingPower_23 : decode cX2_movingPower 23 = .ok (.iload_n 1, 1) := dk_27 (dk_at dksX2_movingPower_0 23 rfl rfl)
theorem dX2_movingPower_24 : decode cX2_movingPower 24 = .ok (.iload_n 2, 1) := dk_28 (dk_at dksX2_movingPower_1 0 rfl rfl)
theorem dX2_movingPower_25 : decode cX2_movingPower 25 = .ok (.iload_n 3, 1) := dk_29 (dk_at dksX2_movingPower_1 1 rfl rfl)
theorem dX2_movingPower_26 : decode cX2_movingPower 26 = .ok (.invokevirtual 429, 3) := dk_182 1 173 (dk_at dksX2_movingPower_1 2 rfl rfl)
theorem dX2_movingPower_29 : decode cX2_movingPower 29 = .ok (.goto 9, 3) := dk_167 0 9 (dk_at dksX2_movingPower_1 5 rfl rfl)
theorem dX2_movingPower_32 : decode cX2_movingPower 32 = .ok (.aload_n 0, 1) := dk_42 (dk_at dksX2_movingPower_1 8 rfl rfl)
theorem dX2_movingPower_33 : decode cX2_movingPower 33 = .ok (.iconst 3, 1) := dk_6 (dk_at dksX2_movingPower_1 9 rfl rfl)
theorem dX2_movingPower_34 : decode cX2_movingPower 34 = .ok (.invokevirtual 227, 3) := dk_182 0 227 (dk_at dksX2_movingPower_1 10 rfl rfl)
theorem dX2_movingPower_37 : decode cX2_movingPower 37 = .ok (.i2l, 1) := dk_133 (dk_at dksX2_movingPower_1 13 rfl rfl)
theorem dX2_movingPower_38 : decode cX2_movingPower 38 = .ok (.lreturn, 1) := dk_173 (dk_at dksX2_movingPower_1 14 rfl rfl)
abbrev cX2_isVelocity : ByteArray := prog_15_method_124_code
def yX2_isVelocity : MethodName := ⟨RX2, "isVelocity", "(II)Z"⟩
def dkwX2_isVelocity_1 : List UInt8 := [153, 0, 7, 4, 167, 0, 4, 3, 172]
abbrev dktX2_isVelocity_1 : List UInt8 := dkwX2_isVelocity_1 ++ []
def dkwX2_isVelocity_0 : List UInt8 := [26, 17, 252, 25, 17, 3, 231, 184, 0, 96, 153, 0, 20, 27, 17, 252, 25, 17, 3, 231, 184, 0, 96]
abbrev dktX2_isVelocity_0 : List UInt8 := dkwX2_isVelocity_0 ++ dktX2_isVelocity_1
theorem dksX2_isVelocity_0 : cX2_isVelocity.data.toList.drop 0 = dktX2_isVelocity_0 := by decide +kernel
theorem dksX2_isVelocity_1 : cX2_isVelocity.data.toList.drop 23 = dktX2_isVelocity_1 := dk_seg dksX2_isVelocity_0 23 rfl rfl
theorem dX2_isVelocity_0 : decode cX2_isVelocity 0 = .ok (.iload_n 0, 1) := dk_26 (dk_at dksX2_isVelocity_0 0 rfl rfl)
theorem dX2_isVelocity_1 : decode cX2_isVelocity 1 = .ok (.sipush (-999), 3) := dk_17 252 25 (dk_at dksX2_isVelocity_0 1 rfl rfl)
theorem dX2_isVelocity_4 : decode cX2_isVelocity 4 = .ok (.sipush 999, 3) := dk_17 3 231 (dk_at dksX2_isVelocity_0 4 rfl rfl)
theorem dX2_isVelocity_7 : decode cX2_isVelocity 7 = .ok (.invokestatic 96, 3) := dk_184 0 96 (dk_at dksX2_isVelocity_0 7 rfl rfl)
theorem dX2_isVelocity_10 : decode cX2_isVelocity 10 = .ok (.ifCond .eq 20, 3) := dk_153 0 20 (dk_at dksX2_isVelocity_0 10 rfl rfl)
theorem dX2_isVelocity_13 : decode cX2_isVelocity 13 = .ok (.iload_n 1, 1) := dk_27 (dk_at dksX2_isVelocity_0 13 rfl rfl)
theorem dX2_isVelocity_14 : decode cX2_isVelocity 14 = .ok (.sipush (-999), 3) := dk_17 252 25 (dk_at dksX2_isVelocity_0 14 rfl rfl)
theorem dX2_isVelocity_17 : decode cX2_isVelocity 17 = .ok (.sipush 999, 3) := dk_17 3 231 (dk_at dksX2_isVelocity_0 17 rfl rfl)
theorem dX2_isVelocity_20 : decode cX2_isVelocity 20 = .ok (.invokestatic 96, 3) := dk_184 0 96 (dk_at dksX2_isVelocity_0 20 rfl rfl)
theorem dX2_isVelocity_23 : decode cX2_isVelocity 23 = .ok (.ifCond .eq 7, 3) := dk_153 0 7 (dk_at dksX2_isVelocity_1 0 rfl rfl)
theorem dX2_isVelocity_26 : decode cX2_isVelocity 26 = .ok (.iconst 1, 1) := dk_4 (dk_at dksX2_isVelocity_1 3 rfl rfl)
theorem dX2_isVelocity_27 : decode cX2_isVelocity 27 = .ok (.goto 4, 3) := dk_167 0 4 (dk_at dksX2_isVelocity_1 4 rfl rfl)
theorem dX2_isVelocity_30 : decode cX2_isVelocity 30 = .ok (.iconst 0, 1) := dk_3 (dk_at dksX2_isVelocity_1 7 rfl rfl)
theorem dX2_isVelocity_31 : decode cX2_isVelocity 31 = .ok (.ireturn, 1) := dk_172 (dk_at dksX2_isVelocity_1 8 rfl rfl)
abbrev cX2_movingOf : ByteArray := prog_15_method_123_code
def yX2_movingOf : MethodName := ⟨RX2, "movingOf", "(III)J"⟩
def dkwX2_movingOf_3 : List UInt8 := [55, 4, 132, 6, 1, 167, 255, 187, 22, 4, 42, 180, 0, 17, 5, 46, 133, 109, 173]
abbrev dktX2_movingOf_3 : List UInt8 := dkwX2_movingOf_3 ++ []
def dkwX2_movingOf_2 : List UInt8 := [182, 1, 107, 42, 42, 180, 0, 23, 21, 6, 182, 1, 52, 133, 55, 7, 22, 4, 22, 7, 22, 7, 105, 97]
abbrev dktX2_movingOf_2 : List UInt8 := dkwX2_movingOf_2 ++ dktX2_movingOf_3
def dkwX2_movingOf_1 : List UInt8 := [28, 21, 6, 104, 16, 100, 108, 96, 42, 27, 4, 182, 0, 240, 29, 21, 6, 104, 16, 100, 108, 96]
abbrev dktX2_movingOf_1 : List UInt8 := dkwX2_movingOf_1 ++ dktX2_movingOf_2
def dkwX2_movingOf_0 : List UInt8 := [9, 55, 4, 3, 54, 6, 21, 6, 42, 180, 0, 17, 5, 46, 162, 0, 64, 42, 42, 27, 3, 182, 0, 240]
abbrev dktX2_movingOf_0 : List UInt8 := dkwX2_movingOf_0 ++ dktX2_movingOf_1
theorem dksX2_movingOf_0 : cX2_movingOf.data.toList.drop 0 = dktX2_movingOf_0 := by decide +kernel
theorem dksX2_movingOf_1 : cX2_movingOf.data.toList.drop 24 = dktX2_movingOf_1 := dk_seg dksX2_movingOf_0 24 rfl rfl
theorem dksX2_movingOf_2 : cX2_movingOf.data.toList.drop 46 = dktX2_movingOf_2 := dk_seg dksX2_movingOf_1 22 rfl rfl
theorem dksX2_movingOf_3 : cX2_movingOf.data.toList.drop 70 = dktX2_movingOf_3 := dk_seg dksX2_movingOf_2 24 rfl rfl
theorem dX2_movingOf_0 : decode cX2_movingOf 0 = .ok (.lconst 0, 1) := dk_9 (dk_at dksX2_movingOf_0 0 rfl rfl)
theorem dX2_movingOf_1 : decode cX2_movingOf 1 = .ok (.lstore 4, 2) := dk_55 4 (dk_at dksX2_movingOf_0 1 rfl rfl)
theorem dX2_movingOf_3 : decode cX2_movingOf 3 = .ok (.iconst 0, 1) := dk_3 (dk_at dksX2_movingOf_0 3 rfl rfl)
theorem dX2_movingOf_4 : decode cX2_movingOf 4 = .ok (.istore 6, 2) := dk_54 6 (dk_at dksX2_movingOf_0 4 rfl rfl)
theorem dX2_movingOf_6 : decode cX2_movingOf 6 = .ok (.iload 6, 2) := dk_21 6 (dk_at dksX2_movingOf_0 6 rfl rfl)
theorem dX2_movingOf_8 : decode cX2_movingOf 8 = .ok (.aload_n 0, 1) := dk_42 (dk_at dksX2_movingOf_0 8 rfl rfl)
theorem dX2_movingOf_9 : decode cX2_movingOf 9 = .ok (.getfield 17, 3) := dk_180 0 17 (dk_at dksX2_movingOf_0 9 rfl rfl)
theorem dX2_movingOf_12 : decode cX2_movingOf 12 = .ok (.iconst 2, 1) := dk_5 (dk_at dksX2_movingOf_0 12 rfl rfl)
theorem dX2_movingOf_13 : decode cX2_movingOf 13 = .ok (.iaload, 1) := dk_46 (dk_at dksX2_movingOf_0 13 rfl rfl)
theorem dX2_movingOf_14 : decode cX2_movingOf 14 = .ok (.if_icmp .ge 64, 3) := dk_162 0 64 (dk_at dksX2_movingOf_0 14 rfl rfl)
theorem dX2_movingOf_17 : decode cX2_movingOf 17 = .ok (.aload_n 0, 1) := dk_42 (dk_at dksX2_movingOf_0 17 rfl rfl)
theorem dX2_movingOf_18 : decode cX2_movingOf 18 = .ok (.aload_n 0, 1) := dk_42 (dk_at dksX2_movingOf_0 18 rfl rfl)
theorem dX2_movingOf_19 : decode cX2_movingOf 19 = .ok (.iload_n 1, 1) := dk_27 (dk_at dksX2_movingOf_0 19 rfl rfl)
theorem dX2_movingOf_20 : decode cX2_movingOf 20 = .ok (.iconst 0, 1) := dk_3 (dk_at dksX2_movingOf_0 20 rfl rfl)
theorem dX2_movingOf_21 : decode cX2_movingOf 21 = .ok (.invokevirtual 240, 3) := dk_182 0 240 (dk_at dksX2_movingOf_0 21 rfl rfl)
theorem dX2_movingOf_24 : decode cX2_movingOf 24 = .ok (.iload_n 2, 1) := dk_28 (dk_at dksX2_movingOf_1 0 rfl rfl)
theorem dX2_movingOf_25 : decode cX2_movingOf 25 = .ok (.iload 6, 2) := dk_21 6 (dk_at dksX2_movingOf_1 1 rfl rfl)
theorem dX2_movingOf_27 : decode cX2_movingOf 27 = .ok (.imul, 1) := dk_104 (dk_at dksX2_movingOf_1 3 rfl rfl)
theorem dX2_movingOf_28 : decode cX2_movingOf 28 = .ok (.bipush 100, 2) := dk_16 100 (dk_at dksX2_movingOf_1 4 rfl rfl)
theorem dX2_movingOf_30 : decode cX2_movingOf 30 = .ok (.idiv, 1) := dk_108 (dk_at dksX2_movingOf_1 6 rfl rfl)
theorem dX2_movingOf_31 : decode cX2_movingOf 31 = .ok (.iadd, 1) := dk_96 (dk_at dksX2_movingOf_1 7 rfl rfl)
theorem dX2_movingOf_32 : decode cX2_movingOf 32 = .ok (.aload_n 0, 1) := dk_42 (dk_at dksX2_movingOf_1 8 rfl rfl)
theorem dX2_movingOf_33 : decode cX2_movingOf 33 = .ok (.iload_n 1, 1) := dk_27 (dk_at dksX2_movingOf_1 9 rfl rfl)
theorem dX2_movingOf_34 : decode cX2_movingOf 34 = .ok (.iconst 1, 1) := dk_4 (dk_at dksX2_movingOf_1 10 rfl rfl)
theorem dX2_movingOf_35 : decode cX2_movingOf 35 = .ok (.invokevirtual 240, 3) := dk_182 0 240 (dk_at dksX2_movingOf_1 11 rfl rfl)
theorem dX2_movingOf_38 : decode cX2_movingOf 38 = .ok (.iload_n 3, 1) := dk_29 (dk_at dksX2_movingOf_1 14 rfl rfl)
theorem dX2_movingOf_39 : decode cX2_movingOf 39 = .ok (.iload 6, 2) := dk_21 6 (dk_at dksX2_movingOf_1 15 rfl rfl)
theorem dX2_movingOf_41 : decode cX2_movingOf 41 = .ok (.imul, 1) := dk_104 (dk_at dksX2_movingOf_1 17 rfl rfl)
theorem dX2_movingOf_42 : decode cX2_movingOf 42 = .ok (.bipush 100, 2) := dk_16 100 (dk_at dksX2_movingOf_1 18 rfl rfl)
theorem dX2_movingOf_44 : decode cX2_movingOf 44 = .ok (.idiv, 1) := dk_108 (dk_at dksX2_movingOf_1 20 rfl rfl)
theorem dX2_movingOf_45 : decode cX2_movingOf 45 = .ok (.iadd, 1) := dk_96 (dk_at dksX2_movingOf_1 21 rfl rfl)
theorem dX2_movingOf_46 : decode cX2_movingOf 46 = .ok (.invokevirtual 363, 3) := dk_182 1 107 (dk_at dksX2_movingOf_2 0 rfl rfl)
theorem dX2_movingOf_49 : decode cX2_movingOf 49 = .ok (.aload_n 0, 1) := dk_42 (dk_at dksX2_movingOf_2 3 rfl rfl)
theorem dX2_movingOf_50 : decode cX2_movingOf 50 = .ok (.aload_n 0, 1) := dk_42 (dk_at dksX2_movingOf_2 4 rfl rfl)
theorem dX2_movingOf_51 : decode cX2_movingOf 51 = .ok (.getfield 23, 3) := dk_180 0 23 (dk_at dksX2_movingOf_2 5 rfl rfl)
theorem dX2_movingOf_54 : decode cX2_movingOf 54 = .ok (.iload 6, 2) := dk_21 6 (dk_at dksX2_movingOf_2 8 rfl rfl)
theorem dX2_movingOf_56 : decode cX2_movingOf 56 = .ok (.invokevirtual 308, 3) := dk_182 1 52 (dk_at dksX2_movingOf_2 10 rfl rfl)
theorem dX2_movingOf_59 : decode cX2_movingOf 59 = .ok (.i2l, 1) := dk_133 (dk_at dksX2_movingOf_2 13 rfl rfl)
theorem dX2_movingOf_60 : decode cX2_movingOf 60 = .ok (.lstore 7, 2) := dk_55 7 (dk_at dksX2_movingOf_2 14 rfl rfl)
theorem dX2_movingOf_62 : decode cX2_movingOf 62 = .ok (.lload 4, 2) := dk_22 4 (dk_at dksX2_movingOf_2 16 rfl rfl)
theorem dX2_movingOf_64 : decode cX2_movingOf 64 = .ok (.lload 7, 2) := dk_22 7 (dk_at dksX2_movingOf_2 18 rfl rfl)
theorem dX2_movingOf_66 : decode cX2_movingOf 66 = .ok (.lload 7, 2) := dk_22 7 (dk_at dksX2_movingOf_2 20 rfl rfl)
theorem dX2_movingOf_68 : decode cX2_movingOf 68 = .ok (.lmul, 1) := dk_105 (dk_at dksX2_movingOf_2 22 rfl rfl)
theorem dX2_movingOf_69 : decode cX2_movingOf 69 = .ok (.ladd, 1) := dk_97 (dk_at dksX2_movingOf_2 23 rfl rfl)
theorem dX2_movingOf_70 : decode cX2_movingOf 70 = .ok (.lstore 4, 2) := dk_55 4 (dk_at dksX2_movingOf_3 0 rfl rfl)
theorem dX2_movingOf_72 : decode cX2_movingOf 72 = .ok (.iinc 6 1, 3) := dk_132 6 1 (dk_at dksX2_movingOf_3 2 rfl rfl)
theorem dX2_movingOf_75 : decode cX2_movingOf 75 = .ok (.goto (-69), 3) := dk_167 255 187 (dk_at dksX2_movingOf_3 5 rfl rfl)
theorem dX2_movingOf_78 : decode cX2_movingOf 78 = .ok (.lload 4, 2) := dk_22 4 (dk_at dksX2_movingOf_3 8 rfl rfl)
theorem dX2_movingOf_80 : decode cX2_movingOf 80 = .ok (.aload_n 0, 1) := dk_42 (dk_at dksX2_movingOf_3 10 rfl rfl)
theorem dX2_movingOf_81 : decode cX2_movingOf 81 = .ok (.getfield 17, 3) := dk_180 0 17 (dk_at dksX2_movingOf_3 11 rfl rfl)
theorem dX2_movingOf_84 : decode cX2_movingOf 84 = .ok (.iconst 2, 1) := dk_5 (dk_at dksX2_movingOf_3 14 rfl rfl)
theorem dX2_movingOf_85 : decode cX2_movingOf 85 = .ok (.iaload, 1) := dk_46 (dk_at dksX2_movingOf_3 15 rfl rfl)
theorem dX2_movingOf_86 : decode cX2_movingOf 86 = .ok (.i2l, 1) := dk_133 (dk_at dksX2_movingOf_3 16 rfl rfl)
theorem dX2_movingOf_87 : decode cX2_movingOf 87 = .ok (.ldiv, 1) := dk_109 (dk_at dksX2_movingOf_3 17 rfl rfl)
theorem dX2_movingOf_88 : decode cX2_movingOf 88 = .ok (.lreturn, 1) := dk_173 (dk_at dksX2_movingOf_3 18 rfl rfl)
abbrev cX2_bestVelocity : ByteArray := prog_15_method_126_code
def yX2_bestVelocity : MethodName := ⟨RX2, "bestVelocity", "(III)I"⟩
def dkwX2_bestVelocity_5 : List UInt8 := [167, 255, 197, 132, 7, 1, 167, 255, 181, 21, 4, 172]
abbrev dktX2_bestVelocity_5 : List UInt8 := dkwX2_bestVelocity_5 ++ []
def dkwX2_bestVelocity_4 : List UInt8 := [167, 0, 21, 16, 100, 21, 7, 29, 96, 104, 21, 8, 96, 29, 96, 54, 4, 22, 9, 55, 5, 132, 8, 1]
abbrev dktX2_bestVelocity_4 : List UInt8 := dkwX2_bestVelocity_4 ++ dktX2_bestVelocity_5
def dkwX2_bestVelocity_3 : List UInt8 := [28, 21, 8, 104, 182, 1, 173, 55, 9, 21, 4, 2, 159, 0, 14, 22, 9, 22, 5, 148, 157, 0, 6]
abbrev dktX2_bestVelocity_3 : List UInt8 := dkwX2_bestVelocity_3 ++ dktX2_bestVelocity_4
def dkwX2_bestVelocity_2 : List UInt8 := [54, 7, 21, 7, 29, 163, 0, 75, 29, 116, 54, 8, 21, 8, 29, 163, 0, 59, 42, 27, 28, 21, 7, 104]
abbrev dktX2_bestVelocity_2 : List UInt8 := dkwX2_bestVelocity_2 ++ dktX2_bestVelocity_3
def dkwX2_bestVelocity_1 : List UInt8 := [29, 3, 7, 184, 0, 96, 154, 0, 9, 42, 6, 182, 0, 227, 172, 2, 54, 4, 9, 55, 5, 29, 116]
abbrev dktX2_bestVelocity_1 : List UInt8 := dkwX2_bestVelocity_1 ++ dktX2_bestVelocity_2
def dkwX2_bestVelocity_0 : List UInt8 := [42, 42, 27, 182, 1, 88, 182, 1, 84, 154, 0, 5, 3, 172, 28, 4, 16, 99, 184, 0, 96, 153, 0, 12]
abbrev dktX2_bestVelocity_0 : List UInt8 := dkwX2_bestVelocity_0 ++ dktX2_bestVelocity_1
theorem dksX2_bestVelocity_0 : cX2_bestVelocity.data.toList.drop 0 = dktX2_bestVelocity_0 := by decide +kernel
theorem dksX2_bestVelocity_1 : cX2_bestVelocity.data.toList.drop 24 = dktX2_bestVelocity_1 := dk_seg dksX2_bestVelocity_0 24 rfl rfl
theorem dksX2_bestVelocity_2 : cX2_bestVelocity.data.toList.drop 47 = dktX2_bestVelocity_2 := dk_seg dksX2_bestVelocity_1 23 rfl rfl
theorem dksX2_bestVelocity_3 : cX2_bestVelocity.data.toList.drop 71 = dktX2_bestVelocity_3 := dk_seg dksX2_bestVelocity_2 24 rfl rfl
theorem dksX2_bestVelocity_4 : cX2_bestVelocity.data.toList.drop 94 = dktX2_bestVelocity_4 := dk_seg dksX2_bestVelocity_3 23 rfl rfl
theorem dksX2_bestVelocity_5 : cX2_bestVelocity.data.toList.drop 118 = dktX2_bestVelocity_5 := dk_seg dksX2_bestVelocity_4 24 rfl rfl
theorem dX2_bestVelocity_0 : decode cX2_bestVelocity 0 = .ok (.aload_n 0, 1) := dk_42 (dk_at dksX2_bestVelocity_0 0 rfl rfl)
theorem dX2_bestVelocity_1 : decode cX2_bestVelocity 1 = .ok (.aload_n 0, 1) := dk_42 (dk_at dksX2_bestVelocity_0 1 rfl rfl)
theorem dX2_bestVelocity_2 : decode cX2_bestVelocity 2 = .ok (.iload_n 1, 1) := dk_27 (dk_at dksX2_bestVelocity_0 2 rfl rfl)
theorem dX2_bestVelocity_3 : decode cX2_bestVelocity 3 = .ok (.invokevirtual 344, 3) := dk_182 1 88 (dk_at dksX2_bestVelocity_0 3 rfl rfl)
theorem dX2_bestVelocity_6 : decode cX2_bestVelocity 6 = .ok (.invokevirtual 340, 3) := dk_182 1 84 (dk_at dksX2_bestVelocity_0 6 rfl rfl)
theorem dX2_bestVelocity_9 : decode cX2_bestVelocity 9 = .ok (.ifCond .ne 5, 3) := dk_154 0 5 (dk_at dksX2_bestVelocity_0 9 rfl rfl)
theorem dX2_bestVelocity_12 : decode cX2_bestVelocity 12 = .ok (.iconst 0, 1) := dk_3 (dk_at dksX2_bestVelocity_0 12 rfl rfl)
theorem dX2_bestVelocity_13 : decode cX2_bestVelocity 13 = .ok (.ireturn, 1) := dk_172 (dk_at dksX2_bestVelocity_0 13 rfl rfl)
theorem dX2_bestVelocity_14 : decode cX2_bestVelocity 14 = .ok (.iload_n 2, 1) := dk_28 (dk_at dksX2_bestVelocity_0 14 rfl rfl)
theorem dX2_bestVelocity_15 : decode cX2_bestVelocity 15 = .ok (.iconst 1, 1) := dk_4 (dk_at dksX2_bestVelocity_0 15 rfl rfl)
theorem dX2_bestVelocity_16 : decode cX2_bestVelocity 16 = .ok (.bipush 99, 2) := dk_16 99 (dk_at dksX2_bestVelocity_0 16 rfl rfl)
theorem dX2_bestVelocity_18 : decode cX2_bestVelocity 18 = .ok (.invokestatic 96, 3) := dk_184 0 96 (dk_at dksX2_bestVelocity_0 18 rfl rfl)
theorem dX2_bestVelocity_21 : decode cX2_bestVelocity 21 = .ok (.ifCond .eq 12, 3) := dk_153 0 12 (dk_at dksX2_bestVelocity_0 21 rfl rfl)
theorem dX2_bestVelocity_24 : decode cX2_bestVelocity 24 = .ok (.iload_n 3, 1) := dk_29 (dk_at dksX2_bestVelocity_1 0 rfl rfl)
theorem dX2_bestVelocity_25 : decode cX2_bestVelocity 25 = .ok (.iconst 0, 1) := dk_3 (dk_at dksX2_bestVelocity_1 1 rfl rfl)
theorem dX2_bestVelocity_26 : decode cX2_bestVelocity 26 = .ok (.iconst 4, 1) := dk_7 (dk_at dksX2_bestVelocity_1 2 rfl rfl)
theorem dX2_bestVelocity_27 : decode cX2_bestVelocity 27 = .ok (.invokestatic 96, 3) := dk_184 0 96 (dk_at dksX2_bestVelocity_1 3 rfl rfl)
theorem dX2_bestVelocity_30 : decode cX2_bestVelocity 30 = .ok (.ifCond .ne 9, 3) := dk_154 0 9 (dk_at dksX2_bestVelocity_1 6 rfl rfl)
theorem dX2_bestVelocity_33 : decode cX2_bestVelocity 33 = .ok (.aload_n 0, 1) := dk_42 (dk_at dksX2_bestVelocity_1 9 rfl rfl)
theorem dX2_bestVelocity_34 : decode cX2_bestVelocity 34 = .ok (.iconst 3, 1) := dk_6 (dk_at dksX2_bestVelocity_1 10 rfl rfl)
theorem dX2_bestVelocity_35 : decode cX2_bestVelocity 35 = .ok (.invokevirtual 227, 3) := dk_182 0 227 (dk_at dksX2_bestVelocity_1 11 rfl rfl)
theorem dX2_bestVelocity_38 : decode cX2_bestVelocity 38 = .ok (.ireturn, 1) := dk_172 (dk_at dksX2_bestVelocity_1 14 rfl rfl)
theorem dX2_bestVelocity_39 : decode cX2_bestVelocity 39 = .ok (.iconst (-1), 1) := dk_2 (dk_at dksX2_bestVelocity_1 15 rfl rfl)
theorem dX2_bestVelocity_40 : decode cX2_bestVelocity 40 = .ok (.istore 4, 2) := dk_54 4 (dk_at dksX2_bestVelocity_1 16 rfl rfl)
theorem dX2_bestVelocity_42 : decode cX2_bestVelocity 42 = .ok (.lconst 0, 1) := dk_9 (dk_at dksX2_bestVelocity_1 18 rfl rfl)
theorem dX2_bestVelocity_43 : decode cX2_bestVelocity 43 = .ok (.lstore 5, 2) := dk_55 5 (dk_at dksX2_bestVelocity_1 19 rfl rfl)
theorem dX2_bestVelocity_45 : decode cX2_bestVelocity 45 = .ok (.iload_n 3, 1) := dk_29 (dk_at dksX2_bestVelocity_1 21 rfl rfl)
theorem dX2_bestVelocity_46 : decode cX2_bestVelocity 46 = .ok (.ineg, 1) := dk_116 (dk_at dksX2_bestVelocity_1 22 rfl rfl)
theorem dX2_bestVelocity_47 : decode cX2_bestVelocity 47 = .ok (.istore 7, 2) := dk_54 7 (dk_at dksX2_bestVelocity_2 0 rfl rfl)
theorem dX2_bestVelocity_49 : decode cX2_bestVelocity 49 = .ok (.iload 7, 2) := dk_21 7 (dk_at dksX2_bestVelocity_2 2 rfl rfl)
theorem dX2_bestVelocity_51 : decode cX2_bestVelocity 51 = .ok (.iload_n 3, 1) := dk_29 (dk_at dksX2_bestVelocity_2 4 rfl rfl)
theorem dX2_bestVelocity_52 : decode cX2_bestVelocity 52 = .ok (.if_icmp .gt 75, 3) := dk_163 0 75 (dk_at dksX2_bestVelocity_2 5 rfl rfl)
theorem dX2_bestVelocity_55 : decode cX2_bestVelocity 55 = .ok (.iload_n 3, 1) := dk_29 (dk_at dksX2_bestVelocity_2 8 rfl rfl)
theorem dX2_bestVelocity_56 : decode cX2_bestVelocity 56 = .ok (.ineg, 1) := dk_116 (dk_at dksX2_bestVelocity_2 9 rfl rfl)
theorem dX2_bestVelocity_57 : decode cX2_bestVelocity 57 = .ok (.istore 8, 2) := dk_54 8 (dk_at dksX2_bestVelocity_2 10 rfl rfl)
theorem dX2_bestVelocity_59 : decode cX2_bestVelocity 59 = .ok (.iload 8, 2) := dk_21 8 (dk_at dksX2_bestVelocity_2 12 rfl rfl)
theorem dX2_bestVelocity_61 : decode cX2_bestVelocity 61 = .ok (.iload_n 3, 1) := dk_29 (dk_at dksX2_bestVelocity_2 14 rfl rfl)
theorem dX2_bestVelocity_62 : decode cX2_bestVelocity 62 = .ok (.if_icmp .gt 59, 3) := dk_163 0 59 (dk_at dksX2_bestVelocity_2 15 rfl rfl)
theorem dX2_bestVelocity_65 : decode cX2_bestVelocity 65 = .ok (.aload_n 0, 1) := dk_42 (dk_at dksX2_bestVelocity_2 18 rfl rfl)
theorem dX2_bestVelocity_66 : decode cX2_bestVelocity 66 = .ok (.iload_n 1, 1) := dk_27 (dk_at dksX2_bestVelocity_2 19 rfl rfl)
theorem dX2_bestVelocity_67 : decode cX2_bestVelocity 67 = .ok (.iload_n 2, 1) := dk_28 (dk_at dksX2_bestVelocity_2 20 rfl rfl)
theorem dX2_bestVelocity_68 : decode cX2_bestVelocity 68 = .ok (.iload 7, 2) := dk_21 7 (dk_at dksX2_bestVelocity_2 21 rfl rfl)
theorem dX2_bestVelocity_70 : decode cX2_bestVelocity 70 = .ok (.imul, 1) := dk_104 (dk_at dksX2_bestVelocity_2 23 rfl rfl)
theorem dX2_bestVelocity_71 : decode cX2_bestVelocity 71 = .ok (.iload_n 2, 1) := dk_28 (dk_at dksX2_bestVelocity_3 0 rfl rfl)
theorem dX2_bestVelocity_72 : decode cX2_bestVelocity 72 = .ok (.iload 8, 2) := dk_21 8 (dk_at dksX2_bestVelocity_3 1 rfl rfl)
theorem dX2_bestVelocity_74 : decode cX2_bestVelocity 74 = .ok (.imul, 1) := dk_104 (dk_at dksX2_bestVelocity_3 3 rfl rfl)
theorem dX2_bestVelocity_75 : decode cX2_bestVelocity 75 = .ok (.invokevirtual 429, 3) := dk_182 1 173 (dk_at dksX2_bestVelocity_3 4 rfl rfl)
theorem dX2_bestVelocity_78 : decode cX2_bestVelocity 78 = .ok (.lstore 9, 2) := dk_55 9 (dk_at dksX2_bestVelocity_3 7 rfl rfl)
theorem dX2_bestVelocity_80 : decode cX2_bestVelocity 80 = .ok (.iload 4, 2) := dk_21 4 (dk_at dksX2_bestVelocity_3 9 rfl rfl)
theorem dX2_bestVelocity_82 : decode cX2_bestVelocity 82 = .ok (.iconst (-1), 1) := dk_2 (dk_at dksX2_bestVelocity_3 11 rfl rfl)
theorem dX2_bestVelocity_83 : decode cX2_bestVelocity 83 = .ok (.if_icmp .eq 14, 3) := dk_159 0 14 (dk_at dksX2_bestVelocity_3 12 rfl rfl)
theorem dX2_bestVelocity_86 : decode cX2_bestVelocity 86 = .ok (.lload 9, 2) := dk_22 9 (dk_at dksX2_bestVelocity_3 15 rfl rfl)
theorem dX2_bestVelocity_88 : decode cX2_bestVelocity 88 = .ok (.lload 5, 2) := dk_22 5 (dk_at dksX2_bestVelocity_3 17 rfl rfl)
theorem dX2_bestVelocity_90 : decode cX2_bestVelocity 90 = .ok (.lcmp, 1) := dk_148 (dk_at dksX2_bestVelocity_3 19 rfl rfl)
theorem dX2_bestVelocity_91 : decode cX2_bestVelocity 91 = .ok (.ifCond .gt 6, 3) := dk_157 0 6 (dk_at dksX2_bestVelocity_3 20 rfl rfl)
theorem dX2_bestVelocity_94 : decode cX2_bestVelocity 94 = .ok (.goto 21, 3) := dk_167 0 21 (dk_at dksX2_bestVelocity_4 0 rfl rfl)
theorem dX2_bestVelocity_97 : decode cX2_bestVelocity 97 = .ok (.bipush 100, 2) := dk_16 100 (dk_at dksX2_bestVelocity_4 3 rfl rfl)
theorem dX2_bestVelocity_99 : decode cX2_bestVelocity 99 = .ok (.iload 7, 2) := dk_21 7 (dk_at dksX2_bestVelocity_4 5 rfl rfl)
theorem dX2_bestVelocity_101 : decode cX2_bestVelocity 101 = .ok (.iload_n 3, 1) := dk_29 (dk_at dksX2_bestVelocity_4 7 rfl rfl)
theorem dX2_bestVelocity_102 : decode cX2_bestVelocity 102 = .ok (.iadd, 1) := dk_96 (dk_at dksX2_bestVelocity_4 8 rfl rfl)
theorem dX2_bestVelocity_103 : decode cX2_bestVelocity 103 = .ok (.imul, 1) := dk_104 (dk_at dksX2_bestVelocity_4 9 rfl rfl)
theorem dX2_bestVelocity_104 : decode cX2_bestVelocity 104 = .ok (.iload 8, 2) := dk_21 8 (dk_at dksX2_bestVelocity_4 10 rfl rfl)
theorem dX2_bestVelocity_106 : decode cX2_bestVelocity 106 = .ok (.iadd, 1) := dk_96 (dk_at dksX2_bestVelocity_4 12 rfl rfl)
theorem dX2_bestVelocity_107 : decode cX2_bestVelocity 107 = .ok (.iload_n 3, 1) := dk_29 (dk_at dksX2_bestVelocity_4 13 rfl rfl)
theorem dX2_bestVelocity_108 : decode cX2_bestVelocity 108 = .ok (.iadd, 1) := dk_96 (dk_at dksX2_bestVelocity_4 14 rfl rfl)
theorem dX2_bestVelocity_109 : decode cX2_bestVelocity 109 = .ok (.istore 4, 2) := dk_54 4 (dk_at dksX2_bestVelocity_4 15 rfl rfl)
theorem dX2_bestVelocity_111 : decode cX2_bestVelocity 111 = .ok (.lload 9, 2) := dk_22 9 (dk_at dksX2_bestVelocity_4 17 rfl rfl)
theorem dX2_bestVelocity_113 : decode cX2_bestVelocity 113 = .ok (.lstore 5, 2) := dk_55 5 (dk_at dksX2_bestVelocity_4 19 rfl rfl)
theorem dX2_bestVelocity_115 : decode cX2_bestVelocity 115 = .ok (.iinc 8 1, 3) := dk_132 8 1 (dk_at dksX2_bestVelocity_4 21 rfl rfl)
theorem dX2_bestVelocity_118 : decode cX2_bestVelocity 118 = .ok (.goto (-59), 3) := dk_167 255 197 (dk_at dksX2_bestVelocity_5 0 rfl rfl)
theorem dX2_bestVelocity_121 : decode cX2_bestVelocity 121 = .ok (.iinc 7 1, 3) := dk_132 7 1 (dk_at dksX2_bestVelocity_5 3 rfl rfl)
theorem dX2_bestVelocity_124 : decode cX2_bestVelocity 124 = .ok (.goto (-75), 3) := dk_167 255 181 (dk_at dksX2_bestVelocity_5 6 rfl rfl)
theorem dX2_bestVelocity_127 : decode cX2_bestVelocity 127 = .ok (.iload 4, 2) := dk_21 4 (dk_at dksX2_bestVelocity_5 9 rfl rfl)
theorem dX2_bestVelocity_129 : decode cX2_bestVelocity 129 = .ok (.ireturn, 1) := dk_172 (dk_at dksX2_bestVelocity_5 11 rfl rfl)
abbrev cX2_correlation : ByteArray := prog_15_method_128_code
def yX2_correlation : MethodName := ⟨RX2, "correlation", "(III)J"⟩
def dkwX2_correlation_2 : List UInt8 := [167, 0, 9, 42, 6, 182, 0, 227, 133, 173]
abbrev dktX2_correlation_2 : List UInt8 := dkwX2_correlation_2 ++ []
def dkwX2_correlation_1 : List UInt8 := [182, 1, 84, 154, 0, 5, 9, 173, 42, 29, 182, 1, 94, 153, 0, 13, 42, 27, 28, 29, 182, 1, 176]
abbrev dktX2_correlation_1 : List UInt8 := dkwX2_correlation_1 ++ dktX2_correlation_2
def dkwX2_correlation_0 : List UInt8 := [42, 42, 27, 182, 1, 81, 153, 0, 15, 42, 28, 182, 1, 81, 153, 0, 7, 4, 167, 0, 4, 3]
abbrev dktX2_correlation_0 : List UInt8 := dkwX2_correlation_0 ++ dktX2_correlation_1
theorem dksX2_correlation_0 : cX2_correlation.data.toList.drop 0 = dktX2_correlation_0 := by decide +kernel
theorem dksX2_correlation_1 : cX2_correlation.data.toList.drop 22 = dktX2_correlation_1 := dk_seg dksX2_correlation_0 22 rfl rfl
theorem dksX2_correlation_2 : cX2_correlation.data.toList.drop 45 = dktX2_correlation_2 := dk_seg dksX2_correlation_1 23 rfl rfl
theorem dX2_correlation_0 : decode cX2_correlation 0 = .ok (.aload_n 0, 1) := dk_42 (dk_at dksX2_correlation_0 0 rfl rfl)
theorem dX2_correlation_1 : decode cX2_correlation 1 = .ok (.aload_n 0, 1) := dk_42 (dk_at dksX2_correlation_0 1 rfl rfl)
theorem dX2_correlation_2 : decode cX2_correlation 2 = .ok (.iload_n 1, 1) := dk_27 (dk_at dksX2_correlation_0 2 rfl rfl)
theorem dX2_correlation_3 : decode cX2_correlation 3 = .ok (.invokevirtual 337, 3) := dk_182 1 81 (dk_at dksX2_correlation_0 3 rfl rfl)
theorem dX2_correlation_6 : decode cX2_correlation 6 = .ok (.ifCond .eq 15, 3) := dk_153 0 15 (dk_at dksX2_correlation_0 6 rfl rfl)
theorem dX2_correlation_9 : decode cX2_correlation 9 = .ok (.aload_n 0, 1) := dk_42 (dk_at dksX2_correlation_0 9 rfl rfl)
theorem dX2_correlation_10 : decode cX2_correlation 10 = .ok (.iload_n 2, 1) := dk_28 (dk_at dksX2_correlation_0 10 rfl rfl)
theorem dX2_correlation_11 : decode cX2_correlation 11 = .ok (.invokevirtual 337, 3) := dk_182 1 81 (dk_at dksX2_correlation_0 11 rfl rfl)
theorem dX2_correlation_14 : decode cX2_correlation 14 = .ok (.ifCond .eq 7, 3) := dk_153 0 7 (dk_at dksX2_correlation_0 14 rfl rfl)
theorem dX2_correlation_17 : decode cX2_correlation 17 = .ok (.iconst 1, 1) := dk_4 (dk_at dksX2_correlation_0 17 rfl rfl)
theorem dX2_correlation_18 : decode cX2_correlation 18 = .ok (.goto 4, 3) := dk_167 0 4 (dk_at dksX2_correlation_0 18 rfl rfl)
theorem dX2_correlation_21 : decode cX2_correlation 21 = .ok (.iconst 0, 1) := dk_3 (dk_at dksX2_correlation_0 21 rfl rfl)
theorem dX2_correlation_22 : decode cX2_correlation 22 = .ok (.invokevirtual 340, 3) := dk_182 1 84 (dk_at dksX2_correlation_1 0 rfl rfl)
theorem dX2_correlation_25 : decode cX2_correlation 25 = .ok (.ifCond .ne 5, 3) := dk_154 0 5 (dk_at dksX2_correlation_1 3 rfl rfl)
theorem dX2_correlation_28 : decode cX2_correlation 28 = .ok (.lconst 0, 1) := dk_9 (dk_at dksX2_correlation_1 6 rfl rfl)
theorem dX2_correlation_29 : decode cX2_correlation 29 = .ok (.lreturn, 1) := dk_173 (dk_at dksX2_correlation_1 7 rfl rfl)
theorem dX2_correlation_30 : decode cX2_correlation 30 = .ok (.aload_n 0, 1) := dk_42 (dk_at dksX2_correlation_1 8 rfl rfl)
theorem dX2_correlation_31 : decode cX2_correlation 31 = .ok (.iload_n 3, 1) := dk_29 (dk_at dksX2_correlation_1 9 rfl rfl)
theorem dX2_correlation_32 : decode cX2_correlation 32 = .ok (.invokevirtual 350, 3) := dk_182 1 94 (dk_at dksX2_correlation_1 10 rfl rfl)
theorem dX2_correlation_35 : decode cX2_correlation 35 = .ok (.ifCond .eq 13, 3) := dk_153 0 13 (dk_at dksX2_correlation_1 13 rfl rfl)
theorem dX2_correlation_38 : decode cX2_correlation 38 = .ok (.aload_n 0, 1) := dk_42 (dk_at dksX2_correlation_1 16 rfl rfl)
theorem dX2_correlation_39 : decode cX2_correlation 39 = .ok (.iload_n 1, 1) := dk_27 (dk_at dksX2_correlation_1 17 rfl rfl)
theorem dX2_correlation_40 : decode cX2_correlation 40 = .ok (.iload_n 2, 1) := dk_28 (dk_at dksX2_correlation_1 18 rfl rfl)
theorem dX2_correlation_41 : decode cX2_correlation 41 = .ok (.iload_n 3, 1) := dk_29 (dk_at dksX2_correlation_1 19 rfl rfl)
theorem dX2_correlation_42 : decode cX2_correlation 42 = .ok (.invokevirtual 432, 3) := dk_182 1 176 (dk_at dksX2_correlation_1 20 rfl rfl)
theorem dX2_correlation_45 : decode cX2_correlation 45 = .ok (.goto 9, 3) := dk_167 0 9 (dk_at dksX2_correlation_2 0 rfl rfl)
theorem dX2_correlation_48 : decode cX2_correlation 48 = .ok (.aload_n 0, 1) := dk_42 (dk_at dksX2_correlation_2 3 rfl rfl)
theorem dX2_correlation_49 : decode cX2_correlation 49 = .ok (.iconst 3, 1) := dk_6 (dk_at dksX2_correlation_2 4 rfl rfl)
theorem dX2_correlation_50 : decode cX2_correlation 50 = .ok (.invokevirtual 227, 3) := dk_182 0 227 (dk_at dksX2_correlation_2 5 rfl rfl)
theorem dX2_correlation_53 : decode cX2_correlation 53 = .ok (.i2l, 1) := dk_133 (dk_at dksX2_correlation_2 8 rfl rfl)
theorem dX2_correlation_54 : decode cX2_correlation 54 = .ok (.lreturn, 1) := dk_173 (dk_at dksX2_correlation_2 9 rfl rfl)
abbrev cX2_together : ByteArray := prog_15_method_127_code
def yX2_together : MethodName := ⟨RX2, "together", "(III)J"⟩
def dkwX2_together_3 : List UInt8 := [22, 4, 173]
abbrev dktX2_together_3 : List UInt8 := dkwX2_together_3 ++ []
def dkwX2_together_2 : List UInt8 := [17, 0, 200, 28, 104, 96, 21, 6, 96, 29, 96, 46, 133, 105, 97, 55, 4, 132, 6, 1, 167, 255, 198]
abbrev dktX2_together_2 : List UInt8 := dkwX2_together_2 ++ dktX2_together_3
def dkwX2_together_1 : List UInt8 := [180, 0, 23, 16, 55, 17, 0, 200, 27, 104, 96, 21, 6, 96, 46, 133, 42, 180, 0, 23, 16, 55]
abbrev dktX2_together_1 : List UInt8 := dkwX2_together_1 ++ dktX2_together_2
def dkwX2_together_0 : List UInt8 := [9, 55, 4, 3, 54, 6, 21, 6, 29, 96, 42, 180, 0, 17, 5, 46, 162, 0, 51, 22, 4, 42]
abbrev dktX2_together_0 : List UInt8 := dkwX2_together_0 ++ dktX2_together_1
theorem dksX2_together_0 : cX2_together.data.toList.drop 0 = dktX2_together_0 := by decide +kernel
theorem dksX2_together_1 : cX2_together.data.toList.drop 22 = dktX2_together_1 := dk_seg dksX2_together_0 22 rfl rfl
theorem dksX2_together_2 : cX2_together.data.toList.drop 44 = dktX2_together_2 := dk_seg dksX2_together_1 22 rfl rfl
theorem dksX2_together_3 : cX2_together.data.toList.drop 67 = dktX2_together_3 := dk_seg dksX2_together_2 23 rfl rfl
theorem dX2_together_0 : decode cX2_together 0 = .ok (.lconst 0, 1) := dk_9 (dk_at dksX2_together_0 0 rfl rfl)
theorem dX2_together_1 : decode cX2_together 1 = .ok (.lstore 4, 2) := dk_55 4 (dk_at dksX2_together_0 1 rfl rfl)
theorem dX2_together_3 : decode cX2_together 3 = .ok (.iconst 0, 1) := dk_3 (dk_at dksX2_together_0 3 rfl rfl)
theorem dX2_together_4 : decode cX2_together 4 = .ok (.istore 6, 2) := dk_54 6 (dk_at dksX2_together_0 4 rfl rfl)
theorem dX2_together_6 : decode cX2_together 6 = .ok (.iload 6, 2) := dk_21 6 (dk_at dksX2_together_0 6 rfl rfl)
theorem dX2_together_8 : decode cX2_together 8 = .ok (.iload_n 3, 1) := dk_29 (dk_at dksX2_together_0 8 rfl rfl)
theorem dX2_together_9 : decode cX2_together 9 = .ok (.iadd, 1) := dk_96 (dk_at dksX2_together_0 9 rfl rfl)
theorem dX2_together_10 : decode cX2_together 10 = .ok (.aload_n 0, 1) := dk_42 (dk_at dksX2_together_0 10 rfl rfl)
theorem dX2_together_11 : decode cX2_together 11 = .ok (.getfield 17, 3) := dk_180 0 17 (dk_at dksX2_together_0 11 rfl rfl)
theorem dX2_together_14 : decode cX2_together 14 = .ok (.iconst 2, 1) := dk_5 (dk_at dksX2_together_0 14 rfl rfl)
theorem dX2_together_15 : decode cX2_together 15 = .ok (.iaload, 1) := dk_46 (dk_at dksX2_together_0 15 rfl rfl)
theorem dX2_together_16 : decode cX2_together 16 = .ok (.if_icmp .ge 51, 3) := dk_162 0 51 (dk_at dksX2_together_0 16 rfl rfl)
theorem dX2_together_19 : decode cX2_together 19 = .ok (.lload 4, 2) := dk_22 4 (dk_at dksX2_together_0 19 rfl rfl)
theorem dX2_together_21 : decode cX2_together 21 = .ok (.aload_n 0, 1) := dk_42 (dk_at dksX2_together_0 21 rfl rfl)
theorem dX2_together_22 : decode cX2_together 22 = .ok (.getfield 23, 3) := dk_180 0 23 (dk_at dksX2_together_1 0 rfl rfl)
theorem dX2_together_25 : decode cX2_together 25 = .ok (.bipush 55, 2) := dk_16 55 (dk_at dksX2_together_1 3 rfl rfl)
theorem dX2_together_27 : decode cX2_together 27 = .ok (.sipush 200, 3) := dk_17 0 200 (dk_at dksX2_together_1 5 rfl rfl)
theorem dX2_together_30 : decode cX2_together 30 = .ok (.iload_n 1, 1) := dk_27 (dk_at dksX2_together_1 8 rfl rfl)
theorem dX2_together_31 : decode cX2_together 31 = .ok (.imul, 1) := dk_104 (dk_at dksX2_together_1 9 rfl rfl)
theorem dX2_together_32 : decode cX2_together 32 = .ok (.iadd, 1) := dk_96 (dk_at dksX2_together_1 10 rfl rfl)
theorem dX2_together_33 : decode cX2_together 33 = .ok (.iload 6, 2) := dk_21 6 (dk_at dksX2_together_1 11 rfl rfl)
theorem dX2_together_35 : decode cX2_together 35 = .ok (.iadd, 1) := dk_96 (dk_at dksX2_together_1 13 rfl rfl)
theorem dX2_together_36 : decode cX2_together 36 = .ok (.iaload, 1) := dk_46 (dk_at dksX2_together_1 14 rfl rfl)
theorem dX2_together_37 : decode cX2_together 37 = .ok (.i2l, 1) := dk_133 (dk_at dksX2_together_1 15 rfl rfl)
theorem dX2_together_38 : decode cX2_together 38 = .ok (.aload_n 0, 1) := dk_42 (dk_at dksX2_together_1 16 rfl rfl)
theorem dX2_together_39 : decode cX2_together 39 = .ok (.getfield 23, 3) := dk_180 0 23 (dk_at dksX2_together_1 17 rfl rfl)
theorem dX2_together_42 : decode cX2_together 42 = .ok (.bipush 55, 2) := dk_16 55 (dk_at dksX2_together_1 20 rfl rfl)
theorem dX2_together_44 : decode cX2_together 44 = .ok (.sipush 200, 3) := dk_17 0 200 (dk_at dksX2_together_2 0 rfl rfl)
theorem dX2_together_47 : decode cX2_together 47 = .ok (.iload_n 2, 1) := dk_28 (dk_at dksX2_together_2 3 rfl rfl)
theorem dX2_together_48 : decode cX2_together 48 = .ok (.imul, 1) := dk_104 (dk_at dksX2_together_2 4 rfl rfl)
theorem dX2_together_49 : decode cX2_together 49 = .ok (.iadd, 1) := dk_96 (dk_at dksX2_together_2 5 rfl rfl)
theorem dX2_together_50 : decode cX2_together 50 = .ok (.iload 6, 2) := dk_21 6 (dk_at dksX2_together_2 6 rfl rfl)
theorem dX2_together_52 : decode cX2_together 52 = .ok (.iadd, 1) := dk_96 (dk_at dksX2_together_2 8 rfl rfl)
theorem dX2_together_53 : decode cX2_together 53 = .ok (.iload_n 3, 1) := dk_29 (dk_at dksX2_together_2 9 rfl rfl)
theorem dX2_together_54 : decode cX2_together 54 = .ok (.iadd, 1) := dk_96 (dk_at dksX2_together_2 10 rfl rfl)
theorem dX2_together_55 : decode cX2_together 55 = .ok (.iaload, 1) := dk_46 (dk_at dksX2_together_2 11 rfl rfl)
theorem dX2_together_56 : decode cX2_together 56 = .ok (.i2l, 1) := dk_133 (dk_at dksX2_together_2 12 rfl rfl)
theorem dX2_together_57 : decode cX2_together 57 = .ok (.lmul, 1) := dk_105 (dk_at dksX2_together_2 13 rfl rfl)
theorem dX2_together_58 : decode cX2_together 58 = .ok (.ladd, 1) := dk_97 (dk_at dksX2_together_2 14 rfl rfl)
theorem dX2_together_59 : decode cX2_together 59 = .ok (.lstore 4, 2) := dk_55 4 (dk_at dksX2_together_2 15 rfl rfl)
theorem dX2_together_61 : decode cX2_together 61 = .ok (.iinc 6 1, 3) := dk_132 6 1 (dk_at dksX2_together_2 17 rfl rfl)
theorem dX2_together_64 : decode cX2_together 64 = .ok (.goto (-58), 3) := dk_167 255 198 (dk_at dksX2_together_2 20 rfl rfl)
theorem dX2_together_67 : decode cX2_together 67 = .ok (.lload 4, 2) := dk_22 4 (dk_at dksX2_together_3 0 rfl rfl)
theorem dX2_together_69 : decode cX2_together 69 = .ok (.lreturn, 1) := dk_173 (dk_at dksX2_together_3 2 rfl rfl)
abbrev cX2_bestLag : ByteArray := prog_15_method_129_code
def yX2_bestLag : MethodName := ⟨RX2, "bestLag", "(III)I"⟩
def dkwX2_bestLag_4 : List UInt8 := [172]
abbrev dktX2_bestLag_4 : List UInt8 := dkwX2_bestLag_4 ++ []
def dkwX2_bestLag_3 : List UInt8 := [182, 1, 176, 148, 158, 0, 8, 21, 5, 167, 0, 5, 21, 4, 54, 4, 132, 5, 1, 167, 255, 218, 21, 4]
abbrev dktX2_bestLag_3 : List UInt8 := dkwX2_bestLag_3 ++ dktX2_bestLag_4
def dkwX2_bestLag_2 : List UInt8 := [54, 4, 4, 54, 5, 21, 5, 29, 163, 0, 38, 42, 27, 28, 21, 5, 182, 1, 176, 42, 27, 28, 21, 4]
abbrev dktX2_bestLag_2 : List UInt8 := dkwX2_bestLag_2 ++ dktX2_bestLag_3
def dkwX2_bestLag_1 : List UInt8 := [182, 1, 84, 154, 0, 5, 3, 172, 42, 29, 182, 1, 94, 154, 0, 9, 42, 6, 182, 0, 227, 172, 3]
abbrev dktX2_bestLag_1 : List UInt8 := dkwX2_bestLag_1 ++ dktX2_bestLag_2
def dkwX2_bestLag_0 : List UInt8 := [42, 42, 27, 182, 1, 81, 153, 0, 15, 42, 28, 182, 1, 81, 153, 0, 7, 4, 167, 0, 4, 3]
abbrev dktX2_bestLag_0 : List UInt8 := dkwX2_bestLag_0 ++ dktX2_bestLag_1
theorem dksX2_bestLag_0 : cX2_bestLag.data.toList.drop 0 = dktX2_bestLag_0 := by decide +kernel
theorem dksX2_bestLag_1 : cX2_bestLag.data.toList.drop 22 = dktX2_bestLag_1 := dk_seg dksX2_bestLag_0 22 rfl rfl
theorem dksX2_bestLag_2 : cX2_bestLag.data.toList.drop 45 = dktX2_bestLag_2 := dk_seg dksX2_bestLag_1 23 rfl rfl
theorem dksX2_bestLag_3 : cX2_bestLag.data.toList.drop 69 = dktX2_bestLag_3 := dk_seg dksX2_bestLag_2 24 rfl rfl
theorem dksX2_bestLag_4 : cX2_bestLag.data.toList.drop 93 = dktX2_bestLag_4 := dk_seg dksX2_bestLag_3 24 rfl rfl
theorem dX2_bestLag_0 : decode cX2_bestLag 0 = .ok (.aload_n 0, 1) := dk_42 (dk_at dksX2_bestLag_0 0 rfl rfl)
theorem dX2_bestLag_1 : decode cX2_bestLag 1 = .ok (.aload_n 0, 1) := dk_42 (dk_at dksX2_bestLag_0 1 rfl rfl)
theorem dX2_bestLag_2 : decode cX2_bestLag 2 = .ok (.iload_n 1, 1) := dk_27 (dk_at dksX2_bestLag_0 2 rfl rfl)
theorem dX2_bestLag_3 : decode cX2_bestLag 3 = .ok (.invokevirtual 337, 3) := dk_182 1 81 (dk_at dksX2_bestLag_0 3 rfl rfl)
theorem dX2_bestLag_6 : decode cX2_bestLag 6 = .ok (.ifCond .eq 15, 3) := dk_153 0 15 (dk_at dksX2_bestLag_0 6 rfl rfl)
theorem dX2_bestLag_9 : decode cX2_bestLag 9 = .ok (.aload_n 0, 1) := dk_42 (dk_at dksX2_bestLag_0 9 rfl rfl)
theorem dX2_bestLag_10 : decode cX2_bestLag 10 = .ok (.iload_n 2, 1) := dk_28 (dk_at dksX2_bestLag_0 10 rfl rfl)
theorem dX2_bestLag_11 : decode cX2_bestLag 11 = .ok (.invokevirtual 337, 3) := dk_182 1 81 (dk_at dksX2_bestLag_0 11 rfl rfl)
theorem dX2_bestLag_14 : decode cX2_bestLag 14 = .ok (.ifCond .eq 7, 3) := dk_153 0 7 (dk_at dksX2_bestLag_0 14 rfl rfl)
theorem dX2_bestLag_17 : decode cX2_bestLag 17 = .ok (.iconst 1, 1) := dk_4 (dk_at dksX2_bestLag_0 17 rfl rfl)
theorem dX2_bestLag_18 : decode cX2_bestLag 18 = .ok (.goto 4, 3) := dk_167 0 4 (dk_at dksX2_bestLag_0 18 rfl rfl)
theorem dX2_bestLag_21 : decode cX2_bestLag 21 = .ok (.iconst 0, 1) := dk_3 (dk_at dksX2_bestLag_0 21 rfl rfl)
theorem dX2_bestLag_22 : decode cX2_bestLag 22 = .ok (.invokevirtual 340, 3) := dk_182 1 84 (dk_at dksX2_bestLag_1 0 rfl rfl)
theorem dX2_bestLag_25 : decode cX2_bestLag 25 = .ok (.ifCond .ne 5, 3) := dk_154 0 5 (dk_at dksX2_bestLag_1 3 rfl rfl)
theorem dX2_bestLag_28 : decode cX2_bestLag 28 = .ok (.iconst 0, 1) := dk_3 (dk_at dksX2_bestLag_1 6 rfl rfl)
theorem dX2_bestLag_29 : decode cX2_bestLag 29 = .ok (.ireturn, 1) := dk_172 (dk_at dksX2_bestLag_1 7 rfl rfl)
theorem dX2_bestLag_30 : decode cX2_bestLag 30 = .ok (.aload_n 0, 1) := dk_42 (dk_at dksX2_bestLag_1 8 rfl rfl)
theorem dX2_bestLag_31 : decode cX2_bestLag 31 = .ok (.iload_n 3, 1) := dk_29 (dk_at dksX2_bestLag_1 9 rfl rfl)
theorem dX2_bestLag_32 : decode cX2_bestLag 32 = .ok (.invokevirtual 350, 3) := dk_182 1 94 (dk_at dksX2_bestLag_1 10 rfl rfl)
theorem dX2_bestLag_35 : decode cX2_bestLag 35 = .ok (.ifCond .ne 9, 3) := dk_154 0 9 (dk_at dksX2_bestLag_1 13 rfl rfl)
theorem dX2_bestLag_38 : decode cX2_bestLag 38 = .ok (.aload_n 0, 1) := dk_42 (dk_at dksX2_bestLag_1 16 rfl rfl)
theorem dX2_bestLag_39 : decode cX2_bestLag 39 = .ok (.iconst 3, 1) := dk_6 (dk_at dksX2_bestLag_1 17 rfl rfl)
theorem dX2_bestLag_40 : decode cX2_bestLag 40 = .ok (.invokevirtual 227, 3) := dk_182 0 227 (dk_at dksX2_bestLag_1 18 rfl rfl)
theorem dX2_bestLag_43 : decode cX2_bestLag 43 = .ok (.ireturn, 1) := dk_172 (dk_at dksX2_bestLag_1 21 rfl rfl)
theorem dX2_bestLag_44 : decode cX2_bestLag 44 = .ok (.iconst 0, 1) := dk_3 (dk_at dksX2_bestLag_1 22 rfl rfl)
theorem dX2_bestLag_45 : decode cX2_bestLag 45 = .ok (.istore 4, 2) := dk_54 4 (dk_at dksX2_bestLag_2 0 rfl rfl)
theorem dX2_bestLag_47 : decode cX2_bestLag 47 = .ok (.iconst 1, 1) := dk_4 (dk_at dksX2_bestLag_2 2 rfl rfl)
theorem dX2_bestLag_48 : decode cX2_bestLag 48 = .ok (.istore 5, 2) := dk_54 5 (dk_at dksX2_bestLag_2 3 rfl rfl)
theorem dX2_bestLag_50 : decode cX2_bestLag 50 = .ok (.iload 5, 2) := dk_21 5 (dk_at dksX2_bestLag_2 5 rfl rfl)
theorem dX2_bestLag_52 : decode cX2_bestLag 52 = .ok (.iload_n 3, 1) := dk_29 (dk_at dksX2_bestLag_2 7 rfl rfl)
theorem dX2_bestLag_53 : decode cX2_bestLag 53 = .ok (.if_icmp .gt 38, 3) := dk_163 0 38 (dk_at dksX2_bestLag_2 8 rfl rfl)
theorem dX2_bestLag_56 : decode cX2_bestLag 56 = .ok (.aload_n 0, 1) := dk_42 (dk_at dksX2_bestLag_2 11 rfl rfl)
theorem dX2_bestLag_57 : decode cX2_bestLag 57 = .ok (.iload_n 1, 1) := dk_27 (dk_at dksX2_bestLag_2 12 rfl rfl)
theorem dX2_bestLag_58 : decode cX2_bestLag 58 = .ok (.iload_n 2, 1) := dk_28 (dk_at dksX2_bestLag_2 13 rfl rfl)
theorem dX2_bestLag_59 : decode cX2_bestLag 59 = .ok (.iload 5, 2) := dk_21 5 (dk_at dksX2_bestLag_2 14 rfl rfl)
theorem dX2_bestLag_61 : decode cX2_bestLag 61 = .ok (.invokevirtual 432, 3) := dk_182 1 176 (dk_at dksX2_bestLag_2 16 rfl rfl)
theorem dX2_bestLag_64 : decode cX2_bestLag 64 = .ok (.aload_n 0, 1) := dk_42 (dk_at dksX2_bestLag_2 19 rfl rfl)
theorem dX2_bestLag_65 : decode cX2_bestLag 65 = .ok (.iload_n 1, 1) := dk_27 (dk_at dksX2_bestLag_2 20 rfl rfl)
theorem dX2_bestLag_66 : decode cX2_bestLag 66 = .ok (.iload_n 2, 1) := dk_28 (dk_at dksX2_bestLag_2 21 rfl rfl)
theorem dX2_bestLag_67 : decode cX2_bestLag 67 = .ok (.iload 4, 2) := dk_21 4 (dk_at dksX2_bestLag_2 22 rfl rfl)
theorem dX2_bestLag_69 : decode cX2_bestLag 69 = .ok (.invokevirtual 432, 3) := dk_182 1 176 (dk_at dksX2_bestLag_3 0 rfl rfl)
theorem dX2_bestLag_72 : decode cX2_bestLag 72 = .ok (.lcmp, 1) := dk_148 (dk_at dksX2_bestLag_3 3 rfl rfl)
theorem dX2_bestLag_73 : decode cX2_bestLag 73 = .ok (.ifCond .le 8, 3) := dk_158 0 8 (dk_at dksX2_bestLag_3 4 rfl rfl)
theorem dX2_bestLag_76 : decode cX2_bestLag 76 = .ok (.iload 5, 2) := dk_21 5 (dk_at dksX2_bestLag_3 7 rfl rfl)
theorem dX2_bestLag_78 : decode cX2_bestLag 78 = .ok (.goto 5, 3) := dk_167 0 5 (dk_at dksX2_bestLag_3 9 rfl rfl)
theorem dX2_bestLag_81 : decode cX2_bestLag 81 = .ok (.iload 4, 2) := dk_21 4 (dk_at dksX2_bestLag_3 12 rfl rfl)
theorem dX2_bestLag_83 : decode cX2_bestLag 83 = .ok (.istore 4, 2) := dk_54 4 (dk_at dksX2_bestLag_3 14 rfl rfl)
theorem dX2_bestLag_85 : decode cX2_bestLag 85 = .ok (.iinc 5 1, 3) := dk_132 5 1 (dk_at dksX2_bestLag_3 16 rfl rfl)
theorem dX2_bestLag_88 : decode cX2_bestLag 88 = .ok (.goto (-38), 3) := dk_167 255 218 (dk_at dksX2_bestLag_3 19 rfl rfl)
theorem dX2_bestLag_91 : decode cX2_bestLag 91 = .ok (.iload 4, 2) := dk_21 4 (dk_at dksX2_bestLag_3 22 rfl rfl)
theorem dX2_bestLag_93 : decode cX2_bestLag 93 = .ok (.ireturn, 1) := dk_172 (dk_at dksX2_bestLag_4 0 rfl rfl)
abbrev cX2_level : ByteArray := prog_15_method_131_code
def yX2_level : MethodName := ⟨RX2, "level", "(I)J"⟩
def dkwX2_level_0 : List UInt8 := [42, 42, 27, 182, 1, 81, 182, 1, 84, 153, 0, 11, 42, 27, 182, 1, 179, 167, 0, 4, 9, 173]
abbrev dktX2_level_0 : List UInt8 := dkwX2_level_0 ++ []
theorem dksX2_level_0 : cX2_level.data.toList.drop 0 = dktX2_level_0 := by decide +kernel
theorem dX2_level_0 : decode cX2_level 0 = .ok (.aload_n 0, 1) := dk_42 (dk_at dksX2_level_0 0 rfl rfl)
theorem dX2_level_1 : decode cX2_level 1 = .ok (.aload_n 0, 1) := dk_42 (dk_at dksX2_level_0 1 rfl rfl)
theorem dX2_level_2 : decode cX2_level 2 = .ok (.iload_n 1, 1) := dk_27 (dk_at dksX2_level_0 2 rfl rfl)
theorem dX2_level_3 : decode cX2_level 3 = .ok (.invokevirtual 337, 3) := dk_182 1 81 (dk_at dksX2_level_0 3 rfl rfl)
theorem dX2_level_6 : decode cX2_level 6 = .ok (.invokevirtual 340, 3) := dk_182 1 84 (dk_at dksX2_level_0 6 rfl rfl)
theorem dX2_level_9 : decode cX2_level 9 = .ok (.ifCond .eq 11, 3) := dk_153 0 11 (dk_at dksX2_level_0 9 rfl rfl)
theorem dX2_level_12 : decode cX2_level 12 = .ok (.aload_n 0, 1) := dk_42 (dk_at dksX2_level_0 12 rfl rfl)
theorem dX2_level_13 : decode cX2_level 13 = .ok (.iload_n 1, 1) := dk_27 (dk_at dksX2_level_0 13 rfl rfl)
theorem dX2_level_14 : decode cX2_level 14 = .ok (.invokevirtual 435, 3) := dk_182 1 179 (dk_at dksX2_level_0 14 rfl rfl)
theorem dX2_level_17 : decode cX2_level 17 = .ok (.goto 4, 3) := dk_167 0 4 (dk_at dksX2_level_0 17 rfl rfl)
theorem dX2_level_20 : decode cX2_level 20 = .ok (.lconst 0, 1) := dk_9 (dk_at dksX2_level_0 20 rfl rfl)
theorem dX2_level_21 : decode cX2_level 21 = .ok (.lreturn, 1) := dk_173 (dk_at dksX2_level_0 21 rfl rfl)
abbrev cX2_levelOf : ByteArray := prog_15_method_130_code
def yX2_levelOf : MethodName := ⟨RX2, "levelOf", "(I)J"⟩
def dkwX2_levelOf_0 : List UInt8 := [42, 27, 27, 3, 182, 1, 176, 42, 180, 0, 17, 5, 46, 133, 109, 173]
abbrev dktX2_levelOf_0 : List UInt8 := dkwX2_levelOf_0 ++ []
theorem dksX2_levelOf_0 : cX2_levelOf.data.toList.drop 0 = dktX2_levelOf_0 := by decide +kernel
theorem dX2_levelOf_0 : decode cX2_levelOf 0 = .ok (.aload_n 0, 1) := dk_42 (dk_at dksX2_levelOf_0 0 rfl rfl)
theorem dX2_levelOf_1 : decode cX2_levelOf 1 = .ok (.iload_n 1, 1) := dk_27 (dk_at dksX2_levelOf_0 1 rfl rfl)
theorem dX2_levelOf_2 : decode cX2_levelOf 2 = .ok (.iload_n 1, 1) := dk_27 (dk_at dksX2_levelOf_0 2 rfl rfl)
theorem dX2_levelOf_3 : decode cX2_levelOf 3 = .ok (.iconst 0, 1) := dk_3 (dk_at dksX2_levelOf_0 3 rfl rfl)
theorem dX2_levelOf_4 : decode cX2_levelOf 4 = .ok (.invokevirtual 432, 3) := dk_182 1 176 (dk_at dksX2_levelOf_0 4 rfl rfl)
theorem dX2_levelOf_7 : decode cX2_levelOf 7 = .ok (.aload_n 0, 1) := dk_42 (dk_at dksX2_levelOf_0 7 rfl rfl)
theorem dX2_levelOf_8 : decode cX2_levelOf 8 = .ok (.getfield 17, 3) := dk_180 0 17 (dk_at dksX2_levelOf_0 8 rfl rfl)
theorem dX2_levelOf_11 : decode cX2_levelOf 11 = .ok (.iconst 2, 1) := dk_5 (dk_at dksX2_levelOf_0 11 rfl rfl)
theorem dX2_levelOf_12 : decode cX2_levelOf 12 = .ok (.iaload, 1) := dk_46 (dk_at dksX2_levelOf_0 12 rfl rfl)
theorem dX2_levelOf_13 : decode cX2_levelOf 13 = .ok (.i2l, 1) := dk_133 (dk_at dksX2_levelOf_0 13 rfl rfl)
theorem dX2_levelOf_14 : decode cX2_levelOf 14 = .ok (.ldiv, 1) := dk_109 (dk_at dksX2_levelOf_0 14 rfl rfl)
theorem dX2_levelOf_15 : decode cX2_levelOf 15 = .ok (.lreturn, 1) := dk_173 (dk_at dksX2_levelOf_0 15 rfl rfl)
abbrev cX2_loudest : ByteArray := prog_15_method_132_code
def yX2_loudest : MethodName := ⟨RX2, "loudest", "(I)I"⟩
def dkwX2_loudest_4 : List UInt8 := [160, 0, 5, 28, 172, 132, 2, 1, 167, 255, 170, 2, 172]
abbrev dktX2_loudest_4 : List UInt8 := dkwX2_loudest_4 ++ []
def dkwX2_loudest_3 : List UInt8 := [154, 0, 13, 21, 4, 28, 162, 0, 7, 4, 167, 0, 4, 3, 96, 62, 132, 4, 1, 167, 255, 198, 29, 27]
abbrev dktX2_loudest_3 : List UInt8 := dkwX2_loudest_3 ++ dktX2_loudest_4
def dkwX2_loudest_2 : List UInt8 := [182, 1, 179, 42, 28, 182, 1, 179, 148, 157, 0, 24, 42, 21, 4, 182, 1, 179, 42, 28, 182, 1, 179, 148]
abbrev dktX2_loudest_2 : List UInt8 := dkwX2_loudest_2 ++ dktX2_loudest_3
def dkwX2_loudest_1 : List UInt8 := [162, 0, 82, 3, 62, 3, 54, 4, 21, 4, 42, 180, 0, 17, 7, 46, 162, 0, 53, 29, 42, 21, 4]
abbrev dktX2_loudest_1 : List UInt8 := dkwX2_loudest_1 ++ dktX2_loudest_2
def dkwX2_loudest_0 : List UInt8 := [42, 42, 27, 182, 1, 81, 182, 1, 84, 154, 0, 5, 3, 172, 3, 61, 28, 42, 180, 0, 17, 7, 46]
abbrev dktX2_loudest_0 : List UInt8 := dkwX2_loudest_0 ++ dktX2_loudest_1
theorem dksX2_loudest_0 : cX2_loudest.data.toList.drop 0 = dktX2_loudest_0 := by decide +kernel
theorem dksX2_loudest_1 : cX2_loudest.data.toList.drop 23 = dktX2_loudest_1 := dk_seg dksX2_loudest_0 23 rfl rfl
theorem dksX2_loudest_2 : cX2_loudest.data.toList.drop 46 = dktX2_loudest_2 := dk_seg dksX2_loudest_1 23 rfl rfl
theorem dksX2_loudest_3 : cX2_loudest.data.toList.drop 70 = dktX2_loudest_3 := dk_seg dksX2_loudest_2 24 rfl rfl
theorem dksX2_loudest_4 : cX2_loudest.data.toList.drop 94 = dktX2_loudest_4 := dk_seg dksX2_loudest_3 24 rfl rfl
theorem dX2_loudest_0 : decode cX2_loudest 0 = .ok (.aload_n 0, 1) := dk_42 (dk_at dksX2_loudest_0 0 rfl rfl)
theorem dX2_loudest_1 : decode cX2_loudest 1 = .ok (.aload_n 0, 1) := dk_42 (dk_at dksX2_loudest_0 1 rfl rfl)
theorem dX2_loudest_2 : decode cX2_loudest 2 = .ok (.iload_n 1, 1) := dk_27 (dk_at dksX2_loudest_0 2 rfl rfl)
theorem dX2_loudest_3 : decode cX2_loudest 3 = .ok (.invokevirtual 337, 3) := dk_182 1 81 (dk_at dksX2_loudest_0 3 rfl rfl)
theorem dX2_loudest_6 : decode cX2_loudest 6 = .ok (.invokevirtual 340, 3) := dk_182 1 84 (dk_at dksX2_loudest_0 6 rfl rfl)
theorem dX2_loudest_9 : decode cX2_loudest 9 = .ok (.ifCond .ne 5, 3) := dk_154 0 5 (dk_at dksX2_loudest_0 9 rfl rfl)
theorem dX2_loudest_12 : decode cX2_loudest 12 = .ok (.iconst 0, 1) := dk_3 (dk_at dksX2_loudest_0 12 rfl rfl)
theorem dX2_loudest_13 : decode cX2_loudest 13 = .ok (.ireturn, 1) := dk_172 (dk_at dksX2_loudest_0 13 rfl rfl)
theorem dX2_loudest_14 : decode cX2_loudest 14 = .ok (.iconst 0, 1) := dk_3 (dk_at dksX2_loudest_0 14 rfl rfl)
theorem dX2_loudest_15 : decode cX2_loudest 15 = .ok (.istore_n 2, 1) := dk_61 (dk_at dksX2_loudest_0 15 rfl rfl)
theorem dX2_loudest_16 : decode cX2_loudest 16 = .ok (.iload_n 2, 1) := dk_28 (dk_at dksX2_loudest_0 16 rfl rfl)
theorem dX2_loudest_17 : decode cX2_loudest 17 = .ok (.aload_n 0, 1) := dk_42 (dk_at dksX2_loudest_0 17 rfl rfl)
theorem dX2_loudest_18 : decode cX2_loudest 18 = .ok (.getfield 17, 3) := dk_180 0 17 (dk_at dksX2_loudest_0 18 rfl rfl)
theorem dX2_loudest_21 : decode cX2_loudest 21 = .ok (.iconst 4, 1) := dk_7 (dk_at dksX2_loudest_0 21 rfl rfl)
theorem dX2_loudest_22 : decode cX2_loudest 22 = .ok (.iaload, 1) := dk_46 (dk_at dksX2_loudest_0 22 rfl rfl)
theorem dX2_loudest_23 : decode cX2_loudest 23 = .ok (.if_icmp .ge 82, 3) := dk_162 0 82 (dk_at dksX2_loudest_1 0 rfl rfl)
theorem dX2_loudest_26 : decode cX2_loudest 26 = .ok (.iconst 0, 1) := dk_3 (dk_at dksX2_loudest_1 3 rfl rfl)
theorem dX2_loudest_27 : decode cX2_loudest 27 = .ok (.istore_n 3, 1) := dk_62 (dk_at dksX2_loudest_1 4 rfl rfl)
theorem dX2_loudest_28 : decode cX2_loudest 28 = .ok (.iconst 0, 1) := dk_3 (dk_at dksX2_loudest_1 5 rfl rfl)
theorem dX2_loudest_29 : decode cX2_loudest 29 = .ok (.istore 4, 2) := dk_54 4 (dk_at dksX2_loudest_1 6 rfl rfl)
theorem dX2_loudest_31 : decode cX2_loudest 31 = .ok (.iload 4, 2) := dk_21 4 (dk_at dksX2_loudest_1 8 rfl rfl)
theorem dX2_loudest_33 : decode cX2_loudest 33 = .ok (.aload_n 0, 1) := dk_42 (dk_at dksX2_loudest_1 10 rfl rfl)
theorem dX2_loudest_34 : decode cX2_loudest 34 = .ok (.getfield 17, 3) := dk_180 0 17 (dk_at dksX2_loudest_1 11 rfl rfl)
theorem dX2_loudest_37 : decode cX2_loudest 37 = .ok (.iconst 4, 1) := dk_7 (dk_at dksX2_loudest_1 14 rfl rfl)
theorem dX2_loudest_38 : decode cX2_loudest 38 = .ok (.iaload, 1) := dk_46 (dk_at dksX2_loudest_1 15 rfl rfl)
theorem dX2_loudest_39 : decode cX2_loudest 39 = .ok (.if_icmp .ge 53, 3) := dk_162 0 53 (dk_at dksX2_loudest_1 16 rfl rfl)
theorem dX2_loudest_42 : decode cX2_loudest 42 = .ok (.iload_n 3, 1) := dk_29 (dk_at dksX2_loudest_1 19 rfl rfl)
theorem dX2_loudest_43 : decode cX2_loudest 43 = .ok (.aload_n 0, 1) := dk_42 (dk_at dksX2_loudest_1 20 rfl rfl)
theorem dX2_loudest_44 : decode cX2_loudest 44 = .ok (.iload 4, 2) := dk_21 4 (dk_at dksX2_loudest_1 21 rfl rfl)
theorem dX2_loudest_46 : decode cX2_loudest 46 = .ok (.invokevirtual 435, 3) := dk_182 1 179 (dk_at dksX2_loudest_2 0 rfl rfl)
theorem dX2_loudest_49 : decode cX2_loudest 49 = .ok (.aload_n 0, 1) := dk_42 (dk_at dksX2_loudest_2 3 rfl rfl)
theorem dX2_loudest_50 : decode cX2_loudest 50 = .ok (.iload_n 2, 1) := dk_28 (dk_at dksX2_loudest_2 4 rfl rfl)
theorem dX2_loudest_51 : decode cX2_loudest 51 = .ok (.invokevirtual 435, 3) := dk_182 1 179 (dk_at dksX2_loudest_2 5 rfl rfl)
theorem dX2_loudest_54 : decode cX2_loudest 54 = .ok (.lcmp, 1) := dk_148 (dk_at dksX2_loudest_2 8 rfl rfl)
theorem dX2_loudest_55 : decode cX2_loudest 55 = .ok (.ifCond .gt 24, 3) := dk_157 0 24 (dk_at dksX2_loudest_2 9 rfl rfl)
theorem dX2_loudest_58 : decode cX2_loudest 58 = .ok (.aload_n 0, 1) := dk_42 (dk_at dksX2_loudest_2 12 rfl rfl)
theorem dX2_loudest_59 : decode cX2_loudest 59 = .ok (.iload 4, 2) := dk_21 4 (dk_at dksX2_loudest_2 13 rfl rfl)
theorem dX2_loudest_61 : decode cX2_loudest 61 = .ok (.invokevirtual 435, 3) := dk_182 1 179 (dk_at dksX2_loudest_2 15 rfl rfl)
theorem dX2_loudest_64 : decode cX2_loudest 64 = .ok (.aload_n 0, 1) := dk_42 (dk_at dksX2_loudest_2 18 rfl rfl)
theorem dX2_loudest_65 : decode cX2_loudest 65 = .ok (.iload_n 2, 1) := dk_28 (dk_at dksX2_loudest_2 19 rfl rfl)
theorem dX2_loudest_66 : decode cX2_loudest 66 = .ok (.invokevirtual 435, 3) := dk_182 1 179 (dk_at dksX2_loudest_2 20 rfl rfl)
theorem dX2_loudest_69 : decode cX2_loudest 69 = .ok (.lcmp, 1) := dk_148 (dk_at dksX2_loudest_2 23 rfl rfl)
theorem dX2_loudest_70 : decode cX2_loudest 70 = .ok (.ifCond .ne 13, 3) := dk_154 0 13 (dk_at dksX2_loudest_3 0 rfl rfl)
theorem dX2_loudest_73 : decode cX2_loudest 73 = .ok (.iload 4, 2) := dk_21 4 (dk_at dksX2_loudest_3 3 rfl rfl)
theorem dX2_loudest_75 : decode cX2_loudest 75 = .ok (.iload_n 2, 1) := dk_28 (dk_at dksX2_loudest_3 5 rfl rfl)
theorem dX2_loudest_76 : decode cX2_loudest 76 = .ok (.if_icmp .ge 7, 3) := dk_162 0 7 (dk_at dksX2_loudest_3 6 rfl rfl)
theorem dX2_loudest_79 : decode cX2_loudest 79 = .ok (.iconst 1, 1) := dk_4 (dk_at dksX2_loudest_3 9 rfl rfl)
theorem dX2_loudest_80 : decode cX2_loudest 80 = .ok (.goto 4, 3) := dk_167 0 4 (dk_at dksX2_loudest_3 10 rfl rfl)
theorem dX2_loudest_83 : decode cX2_loudest 83 = .ok (.iconst 0, 1) := dk_3 (dk_at dksX2_loudest_3 13 rfl rfl)
theorem dX2_loudest_84 : decode cX2_loudest 84 = .ok (.iadd, 1) := dk_96 (dk_at dksX2_loudest_3 14 rfl rfl)
theorem dX2_loudest_85 : decode cX2_loudest 85 = .ok (.istore_n 3, 1) := dk_62 (dk_at dksX2_loudest_3 15 rfl rfl)
theorem dX2_loudest_86 : decode cX2_loudest 86 = .ok (.iinc 4 1, 3) := dk_132 4 1 (dk_at dksX2_loudest_3 16 rfl rfl)
theorem dX2_loudest_89 : decode cX2_loudest 89 = .ok (.goto (-58), 3) := dk_167 255 198 (dk_at dksX2_loudest_3 19 rfl rfl)
theorem dX2_loudest_92 : decode cX2_loudest 92 = .ok (.iload_n 3, 1) := dk_29 (dk_at dksX2_loudest_3 22 rfl rfl)
theorem dX2_loudest_93 : decode cX2_loudest 93 = .ok (.iload_n 1, 1) := dk_27 (dk_at dksX2_loudest_3 23 rfl rfl)
theorem dX2_loudest_94 : decode cX2_loudest 94 = .ok (.if_icmp .ne 5, 3) := dk_160 0 5 (dk_at dksX2_loudest_4 0 rfl rfl)
theorem dX2_loudest_97 : decode cX2_loudest 97 = .ok (.iload_n 2, 1) := dk_28 (dk_at dksX2_loudest_4 3 rfl rfl)
theorem dX2_loudest_98 : decode cX2_loudest 98 = .ok (.ireturn, 1) := dk_172 (dk_at dksX2_loudest_4 4 rfl rfl)
theorem dX2_loudest_99 : decode cX2_loudest 99 = .ok (.iinc 2 1, 3) := dk_132 2 1 (dk_at dksX2_loudest_4 5 rfl rfl)
theorem dX2_loudest_102 : decode cX2_loudest 102 = .ok (.goto (-86), 3) := dk_167 255 170 (dk_at dksX2_loudest_4 8 rfl rfl)
theorem dX2_loudest_105 : decode cX2_loudest 105 = .ok (.iconst (-1), 1) := dk_2 (dk_at dksX2_loudest_4 11 rfl rfl)
theorem dX2_loudest_106 : decode cX2_loudest 106 = .ok (.ireturn, 1) := dk_172 (dk_at dksX2_loudest_4 12 rfl rfl)
abbrev cX2_writeMap : ByteArray := prog_15_method_133_code
def yX2_writeMap : MethodName := ⟨RX2, "writeMap", "()I"⟩
def dkwX2_writeMap_5 : List UInt8 := [181, 1, 183, 132, 3, 1, 167, 255, 163, 42, 180, 1, 183, 172]
abbrev dktX2_writeMap_5 : List UInt8 := dkwX2_writeMap_5 ++ []
def dkwX2_writeMap_4 : List UInt8 := [20, 1, 186, 42, 180, 0, 54, 29, 47, 105, 31, 109, 136, 96, 79, 42, 89, 180, 1, 183, 4, 96]
abbrev dktX2_writeMap_4 : List UInt8 := dkwX2_writeMap_4 ++ dktX2_writeMap_5
def dkwX2_writeMap_3 : List UInt8 := [96, 181, 1, 183, 42, 180, 0, 61, 42, 180, 1, 183, 16, 48, 31, 9, 148, 154, 0, 7, 3, 167, 0, 16]
abbrev dktX2_writeMap_3 : List UInt8 := dkwX2_writeMap_3 ++ dktX2_writeMap_4
def dkwX2_writeMap_2 : List UInt8 := [16, 9, 46, 112, 154, 0, 24, 42, 180, 0, 61, 42, 180, 1, 183, 16, 59, 79, 42, 89, 180, 1, 183, 4]
abbrev dktX2_writeMap_2 : List UInt8 := dkwX2_writeMap_2 ++ dktX2_writeMap_3
def dkwX2_writeMap_1 : List UInt8 := [42, 3, 181, 1, 183, 3, 62, 29, 42, 182, 0, 237, 162, 0, 91, 29, 158, 0, 36, 29, 42, 180, 0, 17]
abbrev dktX2_writeMap_1 : List UInt8 := dkwX2_writeMap_1 ++ dktX2_writeMap_2
def dkwX2_writeMap_0 : List UInt8 := [42, 4, 182, 1, 84, 154, 0, 5, 3, 172, 42, 180, 0, 54, 42, 42, 180, 0, 23, 182, 1, 111, 47, 64]
abbrev dktX2_writeMap_0 : List UInt8 := dkwX2_writeMap_0 ++ dktX2_writeMap_1
theorem dksX2_writeMap_0 : cX2_writeMap.data.toList.drop 0 = dktX2_writeMap_0 := by decide +kernel
theorem dksX2_writeMap_1 : cX2_writeMap.data.toList.drop 24 = dktX2_writeMap_1 := dk_seg dksX2_writeMap_0 24 rfl rfl
theorem dksX2_writeMap_2 : cX2_writeMap.data.toList.drop 48 = dktX2_writeMap_2 := dk_seg dksX2_writeMap_1 24 rfl rfl
theorem dksX2_writeMap_3 : cX2_writeMap.data.toList.drop 72 = dktX2_writeMap_3 := dk_seg dksX2_writeMap_2 24 rfl rfl
theorem dksX2_writeMap_4 : cX2_writeMap.data.toList.drop 96 = dktX2_writeMap_4 := dk_seg dksX2_writeMap_3 24 rfl rfl
theorem dksX2_writeMap_5 : cX2_writeMap.data.toList.drop 118 = dktX2_writeMap_5 := dk_seg dksX2_writeMap_4 22 rfl rfl
theorem dX2_writeMap_0 : decode cX2_writeMap 0 = .ok (.aload_n 0, 1) := dk_42 (dk_at dksX2_writeMap_0 0 rfl rfl)
theorem dX2_writeMap_1 : decode cX2_writeMap 1 = .ok (.iconst 1, 1) := dk_4 (dk_at dksX2_writeMap_0 1 rfl rfl)
theorem dX2_writeMap_2 : decode cX2_writeMap 2 = .ok (.invokevirtual 340, 3) := dk_182 1 84 (dk_at dksX2_writeMap_0 2 rfl rfl)
theorem dX2_writeMap_5 : decode cX2_writeMap 5 = .ok (.ifCond .ne 5, 3) := dk_154 0 5 (dk_at dksX2_writeMap_0 5 rfl rfl)
theorem dX2_writeMap_8 : decode cX2_writeMap 8 = .ok (.iconst 0, 1) := dk_3 (dk_at dksX2_writeMap_0 8 rfl rfl)
theorem dX2_writeMap_9 : decode cX2_writeMap 9 = .ok (.ireturn, 1) := dk_172 (dk_at dksX2_writeMap_0 9 rfl rfl)
theorem dX2_writeMap_10 : decode cX2_writeMap 10 = .ok (.aload_n 0, 1) := dk_42 (dk_at dksX2_writeMap_0 10 rfl rfl)
theorem dX2_writeMap_11 : decode cX2_writeMap 11 = .ok (.getfield 54, 3) := dk_180 0 54 (dk_at dksX2_writeMap_0 11 rfl rfl)
theorem dX2_writeMap_14 : decode cX2_writeMap 14 = .ok (.aload_n 0, 1) := dk_42 (dk_at dksX2_writeMap_0 14 rfl rfl)
theorem dX2_writeMap_15 : decode cX2_writeMap 15 = .ok (.aload_n 0, 1) := dk_42 (dk_at dksX2_writeMap_0 15 rfl rfl)
theorem dX2_writeMap_16 : decode cX2_writeMap 16 = .ok (.getfield 23, 3) := dk_180 0 23 (dk_at dksX2_writeMap_0 16 rfl rfl)
theorem dX2_writeMap_19 : decode cX2_writeMap 19 = .ok (.invokevirtual 367, 3) := dk_182 1 111 (dk_at dksX2_writeMap_0 19 rfl rfl)
theorem dX2_writeMap_22 : decode cX2_writeMap 22 = .ok (.laload, 1) := dk_47 (dk_at dksX2_writeMap_0 22 rfl rfl)
theorem dX2_writeMap_23 : decode cX2_writeMap 23 = .ok (.lstore_n 1, 1) := dk_64 (dk_at dksX2_writeMap_0 23 rfl rfl)
theorem dX2_writeMap_24 : decode cX2_writeMap 24 = .ok (.aload_n 0, 1) := dk_42 (dk_at dksX2_writeMap_1 0 rfl rfl)
theorem dX2_writeMap_25 : decode cX2_writeMap 25 = .ok (.iconst 0, 1) := dk_3 (dk_at dksX2_writeMap_1 1 rfl rfl)
theorem dX2_writeMap_26 : decode cX2_writeMap 26 = .ok (.putfield 439, 3) := dk_181 1 183 (dk_at dksX2_writeMap_1 2 rfl rfl)
theorem dX2_writeMap_29 : decode cX2_writeMap 29 = .ok (.iconst 0, 1) := dk_3 (dk_at dksX2_writeMap_1 5 rfl rfl)
theorem dX2_writeMap_30 : decode cX2_writeMap 30 = .ok (.istore_n 3, 1) := dk_62 (dk_at dksX2_writeMap_1 6 rfl rfl)
theorem dX2_writeMap_31 : decode cX2_writeMap 31 = .ok (.iload_n 3, 1) := dk_29 (dk_at dksX2_writeMap_1 7 rfl rfl)
theorem dX2_writeMap_32 : decode cX2_writeMap 32 = .ok (.aload_n 0, 1) := dk_42 (dk_at dksX2_writeMap_1 8 rfl rfl)
theorem dX2_writeMap_33 : decode cX2_writeMap 33 = .ok (.invokevirtual 237, 3) := dk_182 0 237 (dk_at dksX2_writeMap_1 9 rfl rfl)
theorem dX2_writeMap_36 : decode cX2_writeMap 36 = .ok (.if_icmp .ge 91, 3) := dk_162 0 91 (dk_at dksX2_writeMap_1 12 rfl rfl)
theorem dX2_writeMap_39 : decode cX2_writeMap 39 = .ok (.iload_n 3, 1) := dk_29 (dk_at dksX2_writeMap_1 15 rfl rfl)
theorem dX2_writeMap_40 : decode cX2_writeMap 40 = .ok (.ifCond .le 36, 3) := dk_158 0 36 (dk_at dksX2_writeMap_1 16 rfl rfl)
theorem dX2_writeMap_43 : decode cX2_writeMap 43 = .ok (.iload_n 3, 1) := dk_29 (dk_at dksX2_writeMap_1 19 rfl rfl)
theorem dX2_writeMap_44 : decode cX2_writeMap 44 = .ok (.aload_n 0, 1) := dk_42 (dk_at dksX2_writeMap_1 20 rfl rfl)
theorem dX2_writeMap_45 : decode cX2_writeMap 45 = .ok (.getfield 17, 3) := dk_180 0 17 (dk_at dksX2_writeMap_1 21 rfl rfl)
theorem dX2_writeMap_48 : decode cX2_writeMap 48 = .ok (.bipush 9, 2) := dk_16 9 (dk_at dksX2_writeMap_2 0 rfl rfl)
theorem dX2_writeMap_50 : decode cX2_writeMap 50 = .ok (.iaload, 1) := dk_46 (dk_at dksX2_writeMap_2 2 rfl rfl)
theorem dX2_writeMap_51 : decode cX2_writeMap 51 = .ok (.irem, 1) := dk_112 (dk_at dksX2_writeMap_2 3 rfl rfl)
theorem dX2_writeMap_52 : decode cX2_writeMap 52 = .ok (.ifCond .ne 24, 3) := dk_154 0 24 (dk_at dksX2_writeMap_2 4 rfl rfl)
theorem dX2_writeMap_55 : decode cX2_writeMap 55 = .ok (.aload_n 0, 1) := dk_42 (dk_at dksX2_writeMap_2 7 rfl rfl)
theorem dX2_writeMap_56 : decode cX2_writeMap 56 = .ok (.getfield 61, 3) := dk_180 0 61 (dk_at dksX2_writeMap_2 8 rfl rfl)
theorem dX2_writeMap_59 : decode cX2_writeMap 59 = .ok (.aload_n 0, 1) := dk_42 (dk_at dksX2_writeMap_2 11 rfl rfl)
theorem dX2_writeMap_60 : decode cX2_writeMap 60 = .ok (.getfield 439, 3) := dk_180 1 183 (dk_at dksX2_writeMap_2 12 rfl rfl)
theorem dX2_writeMap_63 : decode cX2_writeMap 63 = .ok (.bipush 59, 2) := dk_16 59 (dk_at dksX2_writeMap_2 15 rfl rfl)
theorem dX2_writeMap_65 : decode cX2_writeMap 65 = .ok (.iastore, 1) := dk_79 (dk_at dksX2_writeMap_2 17 rfl rfl)
theorem dX2_writeMap_66 : decode cX2_writeMap 66 = .ok (.aload_n 0, 1) := dk_42 (dk_at dksX2_writeMap_2 18 rfl rfl)
theorem dX2_writeMap_67 : decode cX2_writeMap 67 = .ok (.dup, 1) := dk_89 (dk_at dksX2_writeMap_2 19 rfl rfl)
theorem dX2_writeMap_68 : decode cX2_writeMap 68 = .ok (.getfield 439, 3) := dk_180 1 183 (dk_at dksX2_writeMap_2 20 rfl rfl)
theorem dX2_writeMap_71 : decode cX2_writeMap 71 = .ok (.iconst 1, 1) := dk_4 (dk_at dksX2_writeMap_2 23 rfl rfl)
theorem dX2_writeMap_72 : decode cX2_writeMap 72 = .ok (.iadd, 1) := dk_96 (dk_at dksX2_writeMap_3 0 rfl rfl)
theorem dX2_writeMap_73 : decode cX2_writeMap 73 = .ok (.putfield 439, 3) := dk_181 1 183 (dk_at dksX2_writeMap_3 1 rfl rfl)
theorem dX2_writeMap_76 : decode cX2_writeMap 76 = .ok (.aload_n 0, 1) := dk_42 (dk_at dksX2_writeMap_3 4 rfl rfl)
theorem dX2_writeMap_77 : decode cX2_writeMap 77 = .ok (.getfield 61, 3) := dk_180 0 61 (dk_at dksX2_writeMap_3 5 rfl rfl)
theorem dX2_writeMap_80 : decode cX2_writeMap 80 = .ok (.aload_n 0, 1) := dk_42 (dk_at dksX2_writeMap_3 8 rfl rfl)
theorem dX2_writeMap_81 : decode cX2_writeMap 81 = .ok (.getfield 439, 3) := dk_180 1 183 (dk_at dksX2_writeMap_3 9 rfl rfl)
theorem dX2_writeMap_84 : decode cX2_writeMap 84 = .ok (.bipush 48, 2) := dk_16 48 (dk_at dksX2_writeMap_3 12 rfl rfl)
theorem dX2_writeMap_86 : decode cX2_writeMap 86 = .ok (.lload_n 1, 1) := dk_31 (dk_at dksX2_writeMap_3 14 rfl rfl)
theorem dX2_writeMap_87 : decode cX2_writeMap 87 = .ok (.lconst 0, 1) := dk_9 (dk_at dksX2_writeMap_3 15 rfl rfl)
theorem dX2_writeMap_88 : decode cX2_writeMap 88 = .ok (.lcmp, 1) := dk_148 (dk_at dksX2_writeMap_3 16 rfl rfl)
theorem dX2_writeMap_89 : decode cX2_writeMap 89 = .ok (.ifCond .ne 7, 3) := dk_154 0 7 (dk_at dksX2_writeMap_3 17 rfl rfl)
theorem dX2_writeMap_92 : decode cX2_writeMap 92 = .ok (.iconst 0, 1) := dk_3 (dk_at dksX2_writeMap_3 20 rfl rfl)
theorem dX2_writeMap_93 : decode cX2_writeMap 93 = .ok (.goto 16, 3) := dk_167 0 16 (dk_at dksX2_writeMap_3 21 rfl rfl)
theorem dX2_writeMap_96 : decode cX2_writeMap 96 = .ok (.ldc2_w 442, 3) := dk_20 1 186 (dk_at dksX2_writeMap_4 0 rfl rfl)
theorem dX2_writeMap_99 : decode cX2_writeMap 99 = .ok (.aload_n 0, 1) := dk_42 (dk_at dksX2_writeMap_4 3 rfl rfl)
theorem dX2_writeMap_100 : decode cX2_writeMap 100 = .ok (.getfield 54, 3) := dk_180 0 54 (dk_at dksX2_writeMap_4 4 rfl rfl)
theorem dX2_writeMap_103 : decode cX2_writeMap 103 = .ok (.iload_n 3, 1) := dk_29 (dk_at dksX2_writeMap_4 7 rfl rfl)
theorem dX2_writeMap_104 : decode cX2_writeMap 104 = .ok (.laload, 1) := dk_47 (dk_at dksX2_writeMap_4 8 rfl rfl)
theorem dX2_writeMap_105 : decode cX2_writeMap 105 = .ok (.lmul, 1) := dk_105 (dk_at dksX2_writeMap_4 9 rfl rfl)
theorem dX2_writeMap_106 : decode cX2_writeMap 106 = .ok (.lload_n 1, 1) := dk_31 (dk_at dksX2_writeMap_4 10 rfl rfl)
theorem dX2_writeMap_107 : decode cX2_writeMap 107 = .ok (.ldiv, 1) := dk_109 (dk_at dksX2_writeMap_4 11 rfl rfl)
theorem dX2_writeMap_108 : decode cX2_writeMap 108 = .ok (.l2i, 1) := dk_136 (dk_at dksX2_writeMap_4 12 rfl rfl)
theorem dX2_writeMap_109 : decode cX2_writeMap 109 = .ok (.iadd, 1) := dk_96 (dk_at dksX2_writeMap_4 13 rfl rfl)
theorem dX2_writeMap_110 : decode cX2_writeMap 110 = .ok (.iastore, 1) := dk_79 (dk_at dksX2_writeMap_4 14 rfl rfl)
theorem dX2_writeMap_111 : decode cX2_writeMap 111 = .ok (.aload_n 0, 1) := dk_42 (dk_at dksX2_writeMap_4 15 rfl rfl)
theorem dX2_writeMap_112 : decode cX2_writeMap 112 = .ok (.dup, 1) := dk_89 (dk_at dksX2_writeMap_4 16 rfl rfl)
theorem dX2_writeMap_113 : decode cX2_writeMap 113 = .ok (.getfield 439, 3) := dk_180 1 183 (dk_at dksX2_writeMap_4 17 rfl rfl)
theorem dX2_writeMap_116 : decode cX2_writeMap 116 = .ok (.iconst 1, 1) := dk_4 (dk_at dksX2_writeMap_4 20 rfl rfl)
theorem dX2_writeMap_117 : decode cX2_writeMap 117 = .ok (.iadd, 1) := dk_96 (dk_at dksX2_writeMap_4 21 rfl rfl)
theorem dX2_writeMap_118 : decode cX2_writeMap 118 = .ok (.putfield 439, 3) := dk_181 1 183 (dk_at dksX2_writeMap_5 0 rfl rfl)
theorem dX2_writeMap_121 : decode cX2_writeMap 121 = .ok (.iinc 3 1, 3) := dk_132 3 1 (dk_at dksX2_writeMap_5 3 rfl rfl)
theorem dX2_writeMap_124 : decode cX2_writeMap 124 = .ok (.goto (-93), 3) := dk_167 255 163 (dk_at dksX2_writeMap_5 6 rfl rfl)
theorem dX2_writeMap_127 : decode cX2_writeMap 127 = .ok (.aload_n 0, 1) := dk_42 (dk_at dksX2_writeMap_5 9 rfl rfl)
theorem dX2_writeMap_128 : decode cX2_writeMap 128 = .ok (.getfield 439, 3) := dk_180 1 183 (dk_at dksX2_writeMap_5 10 rfl rfl)
theorem dX2_writeMap_131 : decode cX2_writeMap 131 = .ok (.ireturn, 1) := dk_172 (dk_at dksX2_writeMap_5 13 rfl rfl)
abbrev cX2_mapByte : ByteArray := prog_15_method_134_code
def yX2_mapByte : MethodName := ⟨RX2, "mapByte", "(I)I"⟩
def dkwX2_mapByte_1 : List UInt8 := [180, 0, 67, 154, 0, 12, 42, 180, 0, 61, 27, 46, 167, 0, 4, 3, 172]
abbrev dktX2_mapByte_1 : List UInt8 := dkwX2_mapByte_1 ++ []
def dkwX2_mapByte_0 : List UInt8 := [42, 27, 3, 42, 180, 1, 183, 4, 100, 184, 0, 96, 153, 0, 7, 3, 167, 0, 4, 4, 181, 0, 67, 42]
abbrev dktX2_mapByte_0 : List UInt8 := dkwX2_mapByte_0 ++ dktX2_mapByte_1
theorem dksX2_mapByte_0 : cX2_mapByte.data.toList.drop 0 = dktX2_mapByte_0 := by decide +kernel
theorem dksX2_mapByte_1 : cX2_mapByte.data.toList.drop 24 = dktX2_mapByte_1 := dk_seg dksX2_mapByte_0 24 rfl rfl
theorem dX2_mapByte_0 : decode cX2_mapByte 0 = .ok (.aload_n 0, 1) := dk_42 (dk_at dksX2_mapByte_0 0 rfl rfl)
theorem dX2_mapByte_1 : decode cX2_mapByte 1 = .ok (.iload_n 1, 1) := dk_27 (dk_at dksX2_mapByte_0 1 rfl rfl)
theorem dX2_mapByte_2 : decode cX2_mapByte 2 = .ok (.iconst 0, 1) := dk_3 (dk_at dksX2_mapByte_0 2 rfl rfl)
theorem dX2_mapByte_3 : decode cX2_mapByte 3 = .ok (.aload_n 0, 1) := dk_42 (dk_at dksX2_mapByte_0 3 rfl rfl)
theorem dX2_mapByte_4 : decode cX2_mapByte 4 = .ok (.getfield 439, 3) := dk_180 1 183 (dk_at dksX2_mapByte_0 4 rfl rfl)
theorem dX2_mapByte_7 : decode cX2_mapByte 7 = .ok (.iconst 1, 1) := dk_4 (dk_at dksX2_mapByte_0 7 rfl rfl)
theorem dX2_mapByte_8 : decode cX2_mapByte 8 = .ok (.isub, 1) := dk_100 (dk_at dksX2_mapByte_0 8 rfl rfl)
theorem dX2_mapByte_9 : decode cX2_mapByte 9 = .ok (.invokestatic 96, 3) := dk_184 0 96 (dk_at dksX2_mapByte_0 9 rfl rfl)
theorem dX2_mapByte_12 : decode cX2_mapByte 12 = .ok (.ifCond .eq 7, 3) := dk_153 0 7 (dk_at dksX2_mapByte_0 12 rfl rfl)
theorem dX2_mapByte_15 : decode cX2_mapByte 15 = .ok (.iconst 0, 1) := dk_3 (dk_at dksX2_mapByte_0 15 rfl rfl)
theorem dX2_mapByte_16 : decode cX2_mapByte 16 = .ok (.goto 4, 3) := dk_167 0 4 (dk_at dksX2_mapByte_0 16 rfl rfl)
theorem dX2_mapByte_19 : decode cX2_mapByte 19 = .ok (.iconst 1, 1) := dk_4 (dk_at dksX2_mapByte_0 19 rfl rfl)
theorem dX2_mapByte_20 : decode cX2_mapByte 20 = .ok (.putfield 67, 3) := dk_181 0 67 (dk_at dksX2_mapByte_0 20 rfl rfl)
theorem dX2_mapByte_23 : decode cX2_mapByte 23 = .ok (.aload_n 0, 1) := dk_42 (dk_at dksX2_mapByte_0 23 rfl rfl)
theorem dX2_mapByte_24 : decode cX2_mapByte 24 = .ok (.getfield 67, 3) := dk_180 0 67 (dk_at dksX2_mapByte_1 0 rfl rfl)
theorem dX2_mapByte_27 : decode cX2_mapByte 27 = .ok (.ifCond .ne 12, 3) := dk_154 0 12 (dk_at dksX2_mapByte_1 3 rfl rfl)
theorem dX2_mapByte_30 : decode cX2_mapByte 30 = .ok (.aload_n 0, 1) := dk_42 (dk_at dksX2_mapByte_1 6 rfl rfl)
theorem dX2_mapByte_31 : decode cX2_mapByte 31 = .ok (.getfield 61, 3) := dk_180 0 61 (dk_at dksX2_mapByte_1 7 rfl rfl)
theorem dX2_mapByte_34 : decode cX2_mapByte 34 = .ok (.iload_n 1, 1) := dk_27 (dk_at dksX2_mapByte_1 10 rfl rfl)
theorem dX2_mapByte_35 : decode cX2_mapByte 35 = .ok (.iaload, 1) := dk_46 (dk_at dksX2_mapByte_1 11 rfl rfl)
theorem dX2_mapByte_36 : decode cX2_mapByte 36 = .ok (.goto 4, 3) := dk_167 0 4 (dk_at dksX2_mapByte_1 12 rfl rfl)
theorem dX2_mapByte_39 : decode cX2_mapByte 39 = .ok (.iconst 0, 1) := dk_3 (dk_at dksX2_mapByte_1 15 rfl rfl)
theorem dX2_mapByte_40 : decode cX2_mapByte 40 = .ok (.ireturn, 1) := dk_172 (dk_at dksX2_mapByte_1 16 rfl rfl)
abbrev cX2_pointBest : ByteArray := prog_15_method_135_code
def yX2_pointBest : MethodName := ⟨RX2, "pointBest", "(II)I"⟩
def dkwX2_pointBest_2 : List UInt8 := [182, 1, 188, 42, 42, 180, 0, 29, 182, 1, 111, 172]
abbrev dktX2_pointBest_2 : List UInt8 := dkwX2_pointBest_2 ++ []
def dkwX2_pointBest_1 : List UInt8 := [182, 0, 227, 172, 42, 180, 0, 23, 3, 42, 180, 0, 29, 3, 184, 0, 233, 42, 42, 180, 0, 29, 27, 28]
abbrev dktX2_pointBest_1 : List UInt8 := dkwX2_pointBest_1 ++ dktX2_pointBest_2
def dkwX2_pointBest_0 : List UInt8 := [42, 42, 27, 182, 1, 88, 182, 1, 84, 154, 0, 5, 3, 172, 28, 184, 1, 126, 154, 0, 9, 42, 6]
abbrev dktX2_pointBest_0 : List UInt8 := dkwX2_pointBest_0 ++ dktX2_pointBest_1
theorem dksX2_pointBest_0 : cX2_pointBest.data.toList.drop 0 = dktX2_pointBest_0 := by decide +kernel
theorem dksX2_pointBest_1 : cX2_pointBest.data.toList.drop 23 = dktX2_pointBest_1 := dk_seg dksX2_pointBest_0 23 rfl rfl
theorem dksX2_pointBest_2 : cX2_pointBest.data.toList.drop 47 = dktX2_pointBest_2 := dk_seg dksX2_pointBest_1 24 rfl rfl
theorem dX2_pointBest_0 : decode cX2_pointBest 0 = .ok (.aload_n 0, 1) := dk_42 (dk_at dksX2_pointBest_0 0 rfl rfl)
theorem dX2_pointBest_1 : decode cX2_pointBest 1 = .ok (.aload_n 0, 1) := dk_42 (dk_at dksX2_pointBest_0 1 rfl rfl)
theorem dX2_pointBest_2 : decode cX2_pointBest 2 = .ok (.iload_n 1, 1) := dk_27 (dk_at dksX2_pointBest_0 2 rfl rfl)
theorem dX2_pointBest_3 : decode cX2_pointBest 3 = .ok (.invokevirtual 344, 3) := dk_182 1 88 (dk_at dksX2_pointBest_0 3 rfl rfl)
theorem dX2_pointBest_6 : decode cX2_pointBest 6 = .ok (.invokevirtual 340, 3) := dk_182 1 84 (dk_at dksX2_pointBest_0 6 rfl rfl)
theorem dX2_pointBest_9 : decode cX2_pointBest 9 = .ok (.ifCond .ne 5, 3) := dk_154 0 5 (dk_at dksX2_pointBest_0 9 rfl rfl)
theorem dX2_pointBest_12 : decode cX2_pointBest 12 = .ok (.iconst 0, 1) := dk_3 (dk_at dksX2_pointBest_0 12 rfl rfl)
theorem dX2_pointBest_13 : decode cX2_pointBest 13 = .ok (.ireturn, 1) := dk_172 (dk_at dksX2_pointBest_0 13 rfl rfl)
theorem dX2_pointBest_14 : decode cX2_pointBest 14 = .ok (.iload_n 2, 1) := dk_28 (dk_at dksX2_pointBest_0 14 rfl rfl)
theorem dX2_pointBest_15 : decode cX2_pointBest 15 = .ok (.invokestatic 382, 3) := dk_184 1 126 (dk_at dksX2_pointBest_0 15 rfl rfl)
theorem dX2_pointBest_18 : decode cX2_pointBest 18 = .ok (.ifCond .ne 9, 3) := dk_154 0 9 (dk_at dksX2_pointBest_0 18 rfl rfl)
theorem dX2_pointBest_21 : decode cX2_pointBest 21 = .ok (.aload_n 0, 1) := dk_42 (dk_at dksX2_pointBest_0 21 rfl rfl)
theorem dX2_pointBest_22 : decode cX2_pointBest 22 = .ok (.iconst 3, 1) := dk_6 (dk_at dksX2_pointBest_0 22 rfl rfl)
theorem dX2_pointBest_23 : decode cX2_pointBest 23 = .ok (.invokevirtual 227, 3) := dk_182 0 227 (dk_at dksX2_pointBest_1 0 rfl rfl)
theorem dX2_pointBest_26 : decode cX2_pointBest 26 = .ok (.ireturn, 1) := dk_172 (dk_at dksX2_pointBest_1 3 rfl rfl)
theorem dX2_pointBest_27 : decode cX2_pointBest 27 = .ok (.aload_n 0, 1) := dk_42 (dk_at dksX2_pointBest_1 4 rfl rfl)
theorem dX2_pointBest_28 : decode cX2_pointBest 28 = .ok (.getfield 23, 3) := dk_180 0 23 (dk_at dksX2_pointBest_1 5 rfl rfl)
theorem dX2_pointBest_31 : decode cX2_pointBest 31 = .ok (.iconst 0, 1) := dk_3 (dk_at dksX2_pointBest_1 8 rfl rfl)
theorem dX2_pointBest_32 : decode cX2_pointBest 32 = .ok (.aload_n 0, 1) := dk_42 (dk_at dksX2_pointBest_1 9 rfl rfl)
theorem dX2_pointBest_33 : decode cX2_pointBest 33 = .ok (.getfield 29, 3) := dk_180 0 29 (dk_at dksX2_pointBest_1 10 rfl rfl)
theorem dX2_pointBest_36 : decode cX2_pointBest 36 = .ok (.iconst 0, 1) := dk_3 (dk_at dksX2_pointBest_1 13 rfl rfl)
theorem dX2_pointBest_37 : decode cX2_pointBest 37 = .ok (.invokestatic 233, 3) := dk_184 0 233 (dk_at dksX2_pointBest_1 14 rfl rfl)
theorem dX2_pointBest_40 : decode cX2_pointBest 40 = .ok (.aload_n 0, 1) := dk_42 (dk_at dksX2_pointBest_1 17 rfl rfl)
theorem dX2_pointBest_41 : decode cX2_pointBest 41 = .ok (.aload_n 0, 1) := dk_42 (dk_at dksX2_pointBest_1 18 rfl rfl)
theorem dX2_pointBest_42 : decode cX2_pointBest 42 = .ok (.getfield 29, 3) := dk_180 0 29 (dk_at dksX2_pointBest_1 19 rfl rfl)
theorem dX2_pointBest_45 : decode cX2_pointBest 45 = .ok (.iload_n 1, 1) := dk_27 (dk_at dksX2_pointBest_1 22 rfl rfl)
theorem dX2_pointBest_46 : decode cX2_pointBest 46 = .ok (.iload_n 2, 1) := dk_28 (dk_at dksX2_pointBest_1 23 rfl rfl)
theorem dX2_pointBest_47 : decode cX2_pointBest 47 = .ok (.invokevirtual 444, 3) := dk_182 1 188 (dk_at dksX2_pointBest_2 0 rfl rfl)
theorem dX2_pointBest_50 : decode cX2_pointBest 50 = .ok (.aload_n 0, 1) := dk_42 (dk_at dksX2_pointBest_2 3 rfl rfl)
theorem dX2_pointBest_51 : decode cX2_pointBest 51 = .ok (.aload_n 0, 1) := dk_42 (dk_at dksX2_pointBest_2 4 rfl rfl)
theorem dX2_pointBest_52 : decode cX2_pointBest 52 = .ok (.getfield 29, 3) := dk_180 0 29 (dk_at dksX2_pointBest_2 5 rfl rfl)
theorem dX2_pointBest_55 : decode cX2_pointBest 55 = .ok (.invokevirtual 367, 3) := dk_182 1 111 (dk_at dksX2_pointBest_2 8 rfl rfl)
theorem dX2_pointBest_58 : decode cX2_pointBest 58 = .ok (.ireturn, 1) := dk_172 (dk_at dksX2_pointBest_2 11 rfl rfl)
abbrev cX2_recordsPoint : ByteArray := prog_15_method_51_code
def yX2_recordsPoint : MethodName := ⟨RX2, "recordsPoint", "([III)V"⟩
def dkwX2_recordsPoint_0 : List UInt8 := [42, 28, 181, 0, 45, 42, 29, 181, 1, 21, 42, 43, 182, 0, 247, 42, 2, 181, 0, 45, 177]
abbrev dktX2_recordsPoint_0 : List UInt8 := dkwX2_recordsPoint_0 ++ []
theorem dksX2_recordsPoint_0 : cX2_recordsPoint.data.toList.drop 0 = dktX2_recordsPoint_0 := by decide +kernel
theorem dX2_recordsPoint_0 : decode cX2_recordsPoint 0 = .ok (.aload_n 0, 1) := dk_42 (dk_at dksX2_recordsPoint_0 0 rfl rfl)
theorem dX2_recordsPoint_1 : decode cX2_recordsPoint 1 = .ok (.iload_n 2, 1) := dk_28 (dk_at dksX2_recordsPoint_0 1 rfl rfl)
theorem dX2_recordsPoint_2 : decode cX2_recordsPoint 2 = .ok (.putfield 45, 3) := dk_181 0 45 (dk_at dksX2_recordsPoint_0 2 rfl rfl)
theorem dX2_recordsPoint_5 : decode cX2_recordsPoint 5 = .ok (.aload_n 0, 1) := dk_42 (dk_at dksX2_recordsPoint_0 5 rfl rfl)
theorem dX2_recordsPoint_6 : decode cX2_recordsPoint 6 = .ok (.iload_n 3, 1) := dk_29 (dk_at dksX2_recordsPoint_0 6 rfl rfl)
theorem dX2_recordsPoint_7 : decode cX2_recordsPoint 7 = .ok (.putfield 277, 3) := dk_181 1 21 (dk_at dksX2_recordsPoint_0 7 rfl rfl)
theorem dX2_recordsPoint_10 : decode cX2_recordsPoint 10 = .ok (.aload_n 0, 1) := dk_42 (dk_at dksX2_recordsPoint_0 10 rfl rfl)
theorem dX2_recordsPoint_11 : decode cX2_recordsPoint 11 = .ok (.aload_n 1, 1) := dk_43 (dk_at dksX2_recordsPoint_0 11 rfl rfl)
theorem dX2_recordsPoint_12 : decode cX2_recordsPoint 12 = .ok (.invokevirtual 247, 3) := dk_182 0 247 (dk_at dksX2_recordsPoint_0 12 rfl rfl)
theorem dX2_recordsPoint_15 : decode cX2_recordsPoint 15 = .ok (.aload_n 0, 1) := dk_42 (dk_at dksX2_recordsPoint_0 15 rfl rfl)
theorem dX2_recordsPoint_16 : decode cX2_recordsPoint 16 = .ok (.iconst (-1), 1) := dk_2 (dk_at dksX2_recordsPoint_0 16 rfl rfl)
theorem dX2_recordsPoint_17 : decode cX2_recordsPoint 17 = .ok (.putfield 45, 3) := dk_181 0 45 (dk_at dksX2_recordsPoint_0 17 rfl rfl)
theorem dX2_recordsPoint_20 : decode cX2_recordsPoint 20 = .ok (.return_, 1) := dk_177 (dk_at dksX2_recordsPoint_0 20 rfl rfl)
abbrev cX2_pointPower : ByteArray := prog_15_method_136_code
def yX2_pointPower : MethodName := ⟨RX2, "pointPower", "(III)J"⟩
def dkwX2_pointPower_3 : List UInt8 := [180, 0, 29, 28, 182, 1, 71, 173]
abbrev dktX2_pointPower_3 : List UInt8 := dkwX2_pointPower_3 ++ []
def dkwX2_pointPower_2 : List UInt8 := [180, 0, 23, 3, 42, 180, 0, 29, 3, 184, 0, 233, 42, 42, 180, 0, 29, 27, 29, 182, 1, 188, 42, 42]
abbrev dktX2_pointPower_2 : List UInt8 := dkwX2_pointPower_2 ++ dktX2_pointPower_3
def dkwX2_pointPower_1 : List UInt8 := [182, 1, 84, 154, 0, 5, 9, 173, 29, 184, 1, 126, 154, 0, 10, 42, 6, 182, 0, 227, 133, 173, 42]
abbrev dktX2_pointPower_1 : List UInt8 := dkwX2_pointPower_1 ++ dktX2_pointPower_2
def dkwX2_pointPower_0 : List UInt8 := [42, 42, 27, 182, 1, 88, 153, 0, 15, 42, 28, 182, 1, 88, 153, 0, 7, 4, 167, 0, 4, 3]
abbrev dktX2_pointPower_0 : List UInt8 := dkwX2_pointPower_0 ++ dktX2_pointPower_1
theorem dksX2_pointPower_0 : cX2_pointPower.data.toList.drop 0 = dktX2_pointPower_0 := by decide +kernel
theorem dksX2_pointPower_1 : cX2_pointPower.data.toList.drop 22 = dktX2_pointPower_1 := dk_seg dksX2_pointPower_0 22 rfl rfl
theorem dksX2_pointPower_2 : cX2_pointPower.data.toList.drop 45 = dktX2_pointPower_2 := dk_seg dksX2_pointPower_1 23 rfl rfl
theorem dksX2_pointPower_3 : cX2_pointPower.data.toList.drop 69 = dktX2_pointPower_3 := dk_seg dksX2_pointPower_2 24 rfl rfl
theorem dX2_pointPower_0 : decode cX2_pointPower 0 = .ok (.aload_n 0, 1) := dk_42 (dk_at dksX2_pointPower_0 0 rfl rfl)
theorem dX2_pointPower_1 : decode cX2_pointPower 1 = .ok (.aload_n 0, 1) := dk_42 (dk_at dksX2_pointPower_0 1 rfl rfl)
theorem dX2_pointPower_2 : decode cX2_pointPower 2 = .ok (.iload_n 1, 1) := dk_27 (dk_at dksX2_pointPower_0 2 rfl rfl)
theorem dX2_pointPower_3 : decode cX2_pointPower 3 = .ok (.invokevirtual 344, 3) := dk_182 1 88 (dk_at dksX2_pointPower_0 3 rfl rfl)
theorem dX2_pointPower_6 : decode cX2_pointPower 6 = .ok (.ifCond .eq 15, 3) := dk_153 0 15 (dk_at dksX2_pointPower_0 6 rfl rfl)
theorem dX2_pointPower_9 : decode cX2_pointPower 9 = .ok (.aload_n 0, 1) := dk_42 (dk_at dksX2_pointPower_0 9 rfl rfl)
theorem dX2_pointPower_10 : decode cX2_pointPower 10 = .ok (.iload_n 2, 1) := dk_28 (dk_at dksX2_pointPower_0 10 rfl rfl)
theorem dX2_pointPower_11 : decode cX2_pointPower 11 = .ok (.invokevirtual 344, 3) := dk_182 1 88 (dk_at dksX2_pointPower_0 11 rfl rfl)
theorem dX2_pointPower_14 : decode cX2_pointPower 14 = .ok (.ifCond .eq 7, 3) := dk_153 0 7 (dk_at dksX2_pointPower_0 14 rfl rfl)
theorem dX2_pointPower_17 : decode cX2_pointPower 17 = .ok (.iconst 1, 1) := dk_4 (dk_at dksX2_pointPower_0 17 rfl rfl)
theorem dX2_pointPower_18 : decode cX2_pointPower 18 = .ok (.goto 4, 3) := dk_167 0 4 (dk_at dksX2_pointPower_0 18 rfl rfl)
theorem dX2_pointPower_21 : decode cX2_pointPower 21 = .ok (.iconst 0, 1) := dk_3 (dk_at dksX2_pointPower_0 21 rfl rfl)
theorem dX2_pointPower_22 : decode cX2_pointPower 22 = .ok (.invokevirtual 340, 3) := dk_182 1 84 (dk_at dksX2_pointPower_1 0 rfl rfl)
theorem dX2_pointPower_25 : decode cX2_pointPower 25 = .ok (.ifCond .ne 5, 3) := dk_154 0 5 (dk_at dksX2_pointPower_1 3 rfl rfl)
theorem dX2_pointPower_28 : decode cX2_pointPower 28 = .ok (.lconst 0, 1) := dk_9 (dk_at dksX2_pointPower_1 6 rfl rfl)
theorem dX2_pointPower_29 : decode cX2_pointPower 29 = .ok (.lreturn, 1) := dk_173 (dk_at dksX2_pointPower_1 7 rfl rfl)
theorem dX2_pointPower_30 : decode cX2_pointPower 30 = .ok (.iload_n 3, 1) := dk_29 (dk_at dksX2_pointPower_1 8 rfl rfl)
theorem dX2_pointPower_31 : decode cX2_pointPower 31 = .ok (.invokestatic 382, 3) := dk_184 1 126 (dk_at dksX2_pointPower_1 9 rfl rfl)
theorem dX2_pointPower_34 : decode cX2_pointPower 34 = .ok (.ifCond .ne 10, 3) := dk_154 0 10 (dk_at dksX2_pointPower_1 12 rfl rfl)
theorem dX2_pointPower_37 : decode cX2_pointPower 37 = .ok (.aload_n 0, 1) := dk_42 (dk_at dksX2_pointPower_1 15 rfl rfl)
theorem dX2_pointPower_38 : decode cX2_pointPower 38 = .ok (.iconst 3, 1) := dk_6 (dk_at dksX2_pointPower_1 16 rfl rfl)
theorem dX2_pointPower_39 : decode cX2_pointPower 39 = .ok (.invokevirtual 227, 3) := dk_182 0 227 (dk_at dksX2_pointPower_1 17 rfl rfl)
theorem dX2_pointPower_42 : decode cX2_pointPower 42 = .ok (.i2l, 1) := dk_133 (dk_at dksX2_pointPower_1 20 rfl rfl)
theorem dX2_pointPower_43 : decode cX2_pointPower 43 = .ok (.lreturn, 1) := dk_173 (dk_at dksX2_pointPower_1 21 rfl rfl)
theorem dX2_pointPower_44 : decode cX2_pointPower 44 = .ok (.aload_n 0, 1) := dk_42 (dk_at dksX2_pointPower_1 22 rfl rfl)
theorem dX2_pointPower_45 : decode cX2_pointPower 45 = .ok (.getfield 23, 3) := dk_180 0 23 (dk_at dksX2_pointPower_2 0 rfl rfl)
theorem dX2_pointPower_48 : decode cX2_pointPower 48 = .ok (.iconst 0, 1) := dk_3 (dk_at dksX2_pointPower_2 3 rfl rfl)
theorem dX2_pointPower_49 : decode cX2_pointPower 49 = .ok (.aload_n 0, 1) := dk_42 (dk_at dksX2_pointPower_2 4 rfl rfl)
theorem dX2_pointPower_50 : decode cX2_pointPower 50 = .ok (.getfield 29, 3) := dk_180 0 29 (dk_at dksX2_pointPower_2 5 rfl rfl)
theorem dX2_pointPower_53 : decode cX2_pointPower 53 = .ok (.iconst 0, 1) := dk_3 (dk_at dksX2_pointPower_2 8 rfl rfl)
theorem dX2_pointPower_54 : decode cX2_pointPower 54 = .ok (.invokestatic 233, 3) := dk_184 0 233 (dk_at dksX2_pointPower_2 9 rfl rfl)
theorem dX2_pointPower_57 : decode cX2_pointPower 57 = .ok (.aload_n 0, 1) := dk_42 (dk_at dksX2_pointPower_2 12 rfl rfl)
theorem dX2_pointPower_58 : decode cX2_pointPower 58 = .ok (.aload_n 0, 1) := dk_42 (dk_at dksX2_pointPower_2 13 rfl rfl)
theorem dX2_pointPower_59 : decode cX2_pointPower 59 = .ok (.getfield 29, 3) := dk_180 0 29 (dk_at dksX2_pointPower_2 14 rfl rfl)
theorem dX2_pointPower_62 : decode cX2_pointPower 62 = .ok (.iload_n 1, 1) := dk_27 (dk_at dksX2_pointPower_2 17 rfl rfl)
theorem dX2_pointPower_63 : decode cX2_pointPower 63 = .ok (.iload_n 3, 1) := dk_29 (dk_at dksX2_pointPower_2 18 rfl rfl)
theorem dX2_pointPower_64 : decode cX2_pointPower 64 = .ok (.invokevirtual 444, 3) := dk_182 1 188 (dk_at dksX2_pointPower_2 19 rfl rfl)
theorem dX2_pointPower_67 : decode cX2_pointPower 67 = .ok (.aload_n 0, 1) := dk_42 (dk_at dksX2_pointPower_2 22 rfl rfl)
theorem dX2_pointPower_68 : decode cX2_pointPower 68 = .ok (.aload_n 0, 1) := dk_42 (dk_at dksX2_pointPower_2 23 rfl rfl)
theorem dX2_pointPower_69 : decode cX2_pointPower 69 = .ok (.getfield 29, 3) := dk_180 0 29 (dk_at dksX2_pointPower_3 0 rfl rfl)
theorem dX2_pointPower_72 : decode cX2_pointPower 72 = .ok (.iload_n 2, 1) := dk_28 (dk_at dksX2_pointPower_3 3 rfl rfl)
theorem dX2_pointPower_73 : decode cX2_pointPower 73 = .ok (.invokevirtual 327, 3) := dk_182 1 71 (dk_at dksX2_pointPower_3 4 rfl rfl)
theorem dX2_pointPower_76 : decode cX2_pointPower 76 = .ok (.lreturn, 1) := dk_173 (dk_at dksX2_pointPower_3 7 rfl rfl)
abbrev cX2_bestWithout : ByteArray := prog_15_method_137_code
def yX2_bestWithout : MethodName := ⟨RX2, "bestWithout", "(I)I"⟩
def dkwX2_bestWithout_1 : List UInt8 := [184, 0, 233, 42, 180, 0, 29, 4, 27, 96, 4, 79, 42, 42, 180, 0, 29, 182, 1, 111, 172]
abbrev dktX2_bestWithout_1 : List UInt8 := dkwX2_bestWithout_1 ++ []
def dkwX2_bestWithout_0 : List UInt8 := [42, 42, 27, 182, 1, 81, 182, 1, 84, 154, 0, 5, 3, 172, 42, 180, 0, 23, 3, 42, 180, 0, 29, 3]
abbrev dktX2_bestWithout_0 : List UInt8 := dkwX2_bestWithout_0 ++ dktX2_bestWithout_1
theorem dksX2_bestWithout_0 : cX2_bestWithout.data.toList.drop 0 = dktX2_bestWithout_0 := by decide +kernel
theorem dksX2_bestWithout_1 : cX2_bestWithout.data.toList.drop 24 = dktX2_bestWithout_1 := dk_seg dksX2_bestWithout_0 24 rfl rfl
theorem dX2_bestWithout_0 : decode cX2_bestWithout 0 = .ok (.aload_n 0, 1) := dk_42 (dk_at dksX2_bestWithout_0 0 rfl rfl)
theorem dX2_bestWithout_1 : decode cX2_bestWithout 1 = .ok (.aload_n 0, 1) := dk_42 (dk_at dksX2_bestWithout_0 1 rfl rfl)
theorem dX2_bestWithout_2 : decode cX2_bestWithout 2 = .ok (.iload_n 1, 1) := dk_27 (dk_at dksX2_bestWithout_0 2 rfl rfl)
theorem dX2_bestWithout_3 : decode cX2_bestWithout 3 = .ok (.invokevirtual 337, 3) := dk_182 1 81 (dk_at dksX2_bestWithout_0 3 rfl rfl)
theorem dX2_bestWithout_6 : decode cX2_bestWithout 6 = .ok (.invokevirtual 340, 3) := dk_182 1 84 (dk_at dksX2_bestWithout_0 6 rfl rfl)
theorem dX2_bestWithout_9 : decode cX2_bestWithout 9 = .ok (.ifCond .ne 5, 3) := dk_154 0 5 (dk_at dksX2_bestWithout_0 9 rfl rfl)
theorem dX2_bestWithout_12 : decode cX2_bestWithout 12 = .ok (.iconst 0, 1) := dk_3 (dk_at dksX2_bestWithout_0 12 rfl rfl)
theorem dX2_bestWithout_13 : decode cX2_bestWithout 13 = .ok (.ireturn, 1) := dk_172 (dk_at dksX2_bestWithout_0 13 rfl rfl)
theorem dX2_bestWithout_14 : decode cX2_bestWithout 14 = .ok (.aload_n 0, 1) := dk_42 (dk_at dksX2_bestWithout_0 14 rfl rfl)
theorem dX2_bestWithout_15 : decode cX2_bestWithout 15 = .ok (.getfield 23, 3) := dk_180 0 23 (dk_at dksX2_bestWithout_0 15 rfl rfl)
theorem dX2_bestWithout_18 : decode cX2_bestWithout 18 = .ok (.iconst 0, 1) := dk_3 (dk_at dksX2_bestWithout_0 18 rfl rfl)
theorem dX2_bestWithout_19 : decode cX2_bestWithout 19 = .ok (.aload_n 0, 1) := dk_42 (dk_at dksX2_bestWithout_0 19 rfl rfl)
theorem dX2_bestWithout_20 : decode cX2_bestWithout 20 = .ok (.getfield 29, 3) := dk_180 0 29 (dk_at dksX2_bestWithout_0 20 rfl rfl)
theorem dX2_bestWithout_23 : decode cX2_bestWithout 23 = .ok (.iconst 0, 1) := dk_3 (dk_at dksX2_bestWithout_0 23 rfl rfl)
theorem dX2_bestWithout_24 : decode cX2_bestWithout 24 = .ok (.invokestatic 233, 3) := dk_184 0 233 (dk_at dksX2_bestWithout_1 0 rfl rfl)
theorem dX2_bestWithout_27 : decode cX2_bestWithout 27 = .ok (.aload_n 0, 1) := dk_42 (dk_at dksX2_bestWithout_1 3 rfl rfl)
theorem dX2_bestWithout_28 : decode cX2_bestWithout 28 = .ok (.getfield 29, 3) := dk_180 0 29 (dk_at dksX2_bestWithout_1 4 rfl rfl)
theorem dX2_bestWithout_31 : decode cX2_bestWithout 31 = .ok (.iconst 1, 1) := dk_4 (dk_at dksX2_bestWithout_1 7 rfl rfl)
theorem dX2_bestWithout_32 : decode cX2_bestWithout 32 = .ok (.iload_n 1, 1) := dk_27 (dk_at dksX2_bestWithout_1 8 rfl rfl)
theorem dX2_bestWithout_33 : decode cX2_bestWithout 33 = .ok (.iadd, 1) := dk_96 (dk_at dksX2_bestWithout_1 9 rfl rfl)
theorem dX2_bestWithout_34 : decode cX2_bestWithout 34 = .ok (.iconst 1, 1) := dk_4 (dk_at dksX2_bestWithout_1 10 rfl rfl)
theorem dX2_bestWithout_35 : decode cX2_bestWithout 35 = .ok (.iastore, 1) := dk_79 (dk_at dksX2_bestWithout_1 11 rfl rfl)
theorem dX2_bestWithout_36 : decode cX2_bestWithout 36 = .ok (.aload_n 0, 1) := dk_42 (dk_at dksX2_bestWithout_1 12 rfl rfl)
theorem dX2_bestWithout_37 : decode cX2_bestWithout 37 = .ok (.aload_n 0, 1) := dk_42 (dk_at dksX2_bestWithout_1 13 rfl rfl)
theorem dX2_bestWithout_38 : decode cX2_bestWithout 38 = .ok (.getfield 29, 3) := dk_180 0 29 (dk_at dksX2_bestWithout_1 14 rfl rfl)
theorem dX2_bestWithout_41 : decode cX2_bestWithout 41 = .ok (.invokevirtual 367, 3) := dk_182 1 111 (dk_at dksX2_bestWithout_1 17 rfl rfl)
theorem dX2_bestWithout_44 : decode cX2_bestWithout 44 = .ok (.ireturn, 1) := dk_172 (dk_at dksX2_bestWithout_1 20 rfl rfl)
abbrev cX2_bestIfOff : ByteArray := prog_15_method_138_code
def yX2_bestIfOff : MethodName := ⟨RX2, "bestIfOff", "(I)I"⟩
def dkwX2_bestIfOff_2 : List UInt8 := [180, 0, 29, 182, 1, 111, 172]
abbrev dktX2_bestIfOff_2 : List UInt8 := dkwX2_bestIfOff_2 ++ []
def dkwX2_bestIfOff_1 : List UInt8 := [184, 0, 233, 42, 180, 0, 29, 16, 25, 27, 96, 3, 79, 42, 42, 180, 0, 29, 182, 0, 247, 42, 42]
abbrev dktX2_bestIfOff_1 : List UInt8 := dkwX2_bestIfOff_1 ++ dktX2_bestIfOff_2
def dkwX2_bestIfOff_0 : List UInt8 := [42, 42, 27, 182, 1, 91, 182, 1, 84, 154, 0, 5, 3, 172, 42, 180, 0, 23, 3, 42, 180, 0, 29, 3]
abbrev dktX2_bestIfOff_0 : List UInt8 := dkwX2_bestIfOff_0 ++ dktX2_bestIfOff_1
theorem dksX2_bestIfOff_0 : cX2_bestIfOff.data.toList.drop 0 = dktX2_bestIfOff_0 := by decide +kernel
theorem dksX2_bestIfOff_1 : cX2_bestIfOff.data.toList.drop 24 = dktX2_bestIfOff_1 := dk_seg dksX2_bestIfOff_0 24 rfl rfl
theorem dksX2_bestIfOff_2 : cX2_bestIfOff.data.toList.drop 47 = dktX2_bestIfOff_2 := dk_seg dksX2_bestIfOff_1 23 rfl rfl
theorem dX2_bestIfOff_0 : decode cX2_bestIfOff 0 = .ok (.aload_n 0, 1) := dk_42 (dk_at dksX2_bestIfOff_0 0 rfl rfl)
theorem dX2_bestIfOff_1 : decode cX2_bestIfOff 1 = .ok (.aload_n 0, 1) := dk_42 (dk_at dksX2_bestIfOff_0 1 rfl rfl)
theorem dX2_bestIfOff_2 : decode cX2_bestIfOff 2 = .ok (.iload_n 1, 1) := dk_27 (dk_at dksX2_bestIfOff_0 2 rfl rfl)
theorem dX2_bestIfOff_3 : decode cX2_bestIfOff 3 = .ok (.invokevirtual 347, 3) := dk_182 1 91 (dk_at dksX2_bestIfOff_0 3 rfl rfl)
theorem dX2_bestIfOff_6 : decode cX2_bestIfOff 6 = .ok (.invokevirtual 340, 3) := dk_182 1 84 (dk_at dksX2_bestIfOff_0 6 rfl rfl)
theorem dX2_bestIfOff_9 : decode cX2_bestIfOff 9 = .ok (.ifCond .ne 5, 3) := dk_154 0 5 (dk_at dksX2_bestIfOff_0 9 rfl rfl)
theorem dX2_bestIfOff_12 : decode cX2_bestIfOff 12 = .ok (.iconst 0, 1) := dk_3 (dk_at dksX2_bestIfOff_0 12 rfl rfl)
theorem dX2_bestIfOff_13 : decode cX2_bestIfOff 13 = .ok (.ireturn, 1) := dk_172 (dk_at dksX2_bestIfOff_0 13 rfl rfl)
theorem dX2_bestIfOff_14 : decode cX2_bestIfOff 14 = .ok (.aload_n 0, 1) := dk_42 (dk_at dksX2_bestIfOff_0 14 rfl rfl)
theorem dX2_bestIfOff_15 : decode cX2_bestIfOff 15 = .ok (.getfield 23, 3) := dk_180 0 23 (dk_at dksX2_bestIfOff_0 15 rfl rfl)
theorem dX2_bestIfOff_18 : decode cX2_bestIfOff 18 = .ok (.iconst 0, 1) := dk_3 (dk_at dksX2_bestIfOff_0 18 rfl rfl)
theorem dX2_bestIfOff_19 : decode cX2_bestIfOff 19 = .ok (.aload_n 0, 1) := dk_42 (dk_at dksX2_bestIfOff_0 19 rfl rfl)
theorem dX2_bestIfOff_20 : decode cX2_bestIfOff 20 = .ok (.getfield 29, 3) := dk_180 0 29 (dk_at dksX2_bestIfOff_0 20 rfl rfl)
theorem dX2_bestIfOff_23 : decode cX2_bestIfOff 23 = .ok (.iconst 0, 1) := dk_3 (dk_at dksX2_bestIfOff_0 23 rfl rfl)
theorem dX2_bestIfOff_24 : decode cX2_bestIfOff 24 = .ok (.invokestatic 233, 3) := dk_184 0 233 (dk_at dksX2_bestIfOff_1 0 rfl rfl)
theorem dX2_bestIfOff_27 : decode cX2_bestIfOff 27 = .ok (.aload_n 0, 1) := dk_42 (dk_at dksX2_bestIfOff_1 3 rfl rfl)
theorem dX2_bestIfOff_28 : decode cX2_bestIfOff 28 = .ok (.getfield 29, 3) := dk_180 0 29 (dk_at dksX2_bestIfOff_1 4 rfl rfl)
theorem dX2_bestIfOff_31 : decode cX2_bestIfOff 31 = .ok (.bipush 25, 2) := dk_16 25 (dk_at dksX2_bestIfOff_1 7 rfl rfl)
theorem dX2_bestIfOff_33 : decode cX2_bestIfOff 33 = .ok (.iload_n 1, 1) := dk_27 (dk_at dksX2_bestIfOff_1 9 rfl rfl)
theorem dX2_bestIfOff_34 : decode cX2_bestIfOff 34 = .ok (.iadd, 1) := dk_96 (dk_at dksX2_bestIfOff_1 10 rfl rfl)
theorem dX2_bestIfOff_35 : decode cX2_bestIfOff 35 = .ok (.iconst 0, 1) := dk_3 (dk_at dksX2_bestIfOff_1 11 rfl rfl)
theorem dX2_bestIfOff_36 : decode cX2_bestIfOff 36 = .ok (.iastore, 1) := dk_79 (dk_at dksX2_bestIfOff_1 12 rfl rfl)
theorem dX2_bestIfOff_37 : decode cX2_bestIfOff 37 = .ok (.aload_n 0, 1) := dk_42 (dk_at dksX2_bestIfOff_1 13 rfl rfl)
theorem dX2_bestIfOff_38 : decode cX2_bestIfOff 38 = .ok (.aload_n 0, 1) := dk_42 (dk_at dksX2_bestIfOff_1 14 rfl rfl)
theorem dX2_bestIfOff_39 : decode cX2_bestIfOff 39 = .ok (.getfield 29, 3) := dk_180 0 29 (dk_at dksX2_bestIfOff_1 15 rfl rfl)
theorem dX2_bestIfOff_42 : decode cX2_bestIfOff 42 = .ok (.invokevirtual 247, 3) := dk_182 0 247 (dk_at dksX2_bestIfOff_1 18 rfl rfl)
theorem dX2_bestIfOff_45 : decode cX2_bestIfOff 45 = .ok (.aload_n 0, 1) := dk_42 (dk_at dksX2_bestIfOff_1 21 rfl rfl)
theorem dX2_bestIfOff_46 : decode cX2_bestIfOff 46 = .ok (.aload_n 0, 1) := dk_42 (dk_at dksX2_bestIfOff_1 22 rfl rfl)
theorem dX2_bestIfOff_47 : decode cX2_bestIfOff 47 = .ok (.getfield 29, 3) := dk_180 0 29 (dk_at dksX2_bestIfOff_2 0 rfl rfl)
theorem dX2_bestIfOff_50 : decode cX2_bestIfOff 50 = .ok (.invokevirtual 367, 3) := dk_182 1 111 (dk_at dksX2_bestIfOff_2 3 rfl rfl)
theorem dX2_bestIfOff_53 : decode cX2_bestIfOff 53 = .ok (.ireturn, 1) := dk_172 (dk_at dksX2_bestIfOff_2 6 rfl rfl)
abbrev cX2_mute : ByteArray := prog_15_method_140_code
def yX2_mute : MethodName := ⟨RX2, "mute", "(IZ)Z"⟩
def dkwX2_mute_1 : List UInt8 := [3, 182, 1, 195, 4, 160, 0, 7, 4, 167, 0, 4, 3, 172]
abbrev dktX2_mute_1 : List UInt8 := dkwX2_mute_1 ++ []
def dkwX2_mute_0 : List UInt8 := [42, 42, 27, 182, 1, 81, 182, 1, 84, 153, 0, 27, 42, 4, 27, 96, 28, 153, 0, 7, 4, 167, 0, 4]
abbrev dktX2_mute_0 : List UInt8 := dkwX2_mute_0 ++ dktX2_mute_1
theorem dksX2_mute_0 : cX2_mute.data.toList.drop 0 = dktX2_mute_0 := by decide +kernel
theorem dksX2_mute_1 : cX2_mute.data.toList.drop 24 = dktX2_mute_1 := dk_seg dksX2_mute_0 24 rfl rfl
theorem dX2_mute_0 : decode cX2_mute 0 = .ok (.aload_n 0, 1) := dk_42 (dk_at dksX2_mute_0 0 rfl rfl)
theorem dX2_mute_1 : decode cX2_mute 1 = .ok (.aload_n 0, 1) := dk_42 (dk_at dksX2_mute_0 1 rfl rfl)
theorem dX2_mute_2 : decode cX2_mute 2 = .ok (.iload_n 1, 1) := dk_27 (dk_at dksX2_mute_0 2 rfl rfl)
theorem dX2_mute_3 : decode cX2_mute 3 = .ok (.invokevirtual 337, 3) := dk_182 1 81 (dk_at dksX2_mute_0 3 rfl rfl)
theorem dX2_mute_6 : decode cX2_mute 6 = .ok (.invokevirtual 340, 3) := dk_182 1 84 (dk_at dksX2_mute_0 6 rfl rfl)
theorem dX2_mute_9 : decode cX2_mute 9 = .ok (.ifCond .eq 27, 3) := dk_153 0 27 (dk_at dksX2_mute_0 9 rfl rfl)
theorem dX2_mute_12 : decode cX2_mute 12 = .ok (.aload_n 0, 1) := dk_42 (dk_at dksX2_mute_0 12 rfl rfl)
theorem dX2_mute_13 : decode cX2_mute 13 = .ok (.iconst 1, 1) := dk_4 (dk_at dksX2_mute_0 13 rfl rfl)
theorem dX2_mute_14 : decode cX2_mute 14 = .ok (.iload_n 1, 1) := dk_27 (dk_at dksX2_mute_0 14 rfl rfl)
theorem dX2_mute_15 : decode cX2_mute 15 = .ok (.iadd, 1) := dk_96 (dk_at dksX2_mute_0 15 rfl rfl)
theorem dX2_mute_16 : decode cX2_mute 16 = .ok (.iload_n 2, 1) := dk_28 (dk_at dksX2_mute_0 16 rfl rfl)
theorem dX2_mute_17 : decode cX2_mute 17 = .ok (.ifCond .eq 7, 3) := dk_153 0 7 (dk_at dksX2_mute_0 17 rfl rfl)
theorem dX2_mute_20 : decode cX2_mute 20 = .ok (.iconst 1, 1) := dk_4 (dk_at dksX2_mute_0 20 rfl rfl)
theorem dX2_mute_21 : decode cX2_mute 21 = .ok (.goto 4, 3) := dk_167 0 4 (dk_at dksX2_mute_0 21 rfl rfl)
theorem dX2_mute_24 : decode cX2_mute 24 = .ok (.iconst 0, 1) := dk_3 (dk_at dksX2_mute_1 0 rfl rfl)
theorem dX2_mute_25 : decode cX2_mute 25 = .ok (.invokevirtual 451, 3) := dk_182 1 195 (dk_at dksX2_mute_1 1 rfl rfl)
theorem dX2_mute_28 : decode cX2_mute 28 = .ok (.iconst 1, 1) := dk_4 (dk_at dksX2_mute_1 4 rfl rfl)
theorem dX2_mute_29 : decode cX2_mute 29 = .ok (.if_icmp .ne 7, 3) := dk_160 0 7 (dk_at dksX2_mute_1 5 rfl rfl)
theorem dX2_mute_32 : decode cX2_mute 32 = .ok (.iconst 1, 1) := dk_4 (dk_at dksX2_mute_1 8 rfl rfl)
theorem dX2_mute_33 : decode cX2_mute 33 = .ok (.goto 4, 3) := dk_167 0 4 (dk_at dksX2_mute_1 9 rfl rfl)
theorem dX2_mute_36 : decode cX2_mute 36 = .ok (.iconst 0, 1) := dk_3 (dk_at dksX2_mute_1 12 rfl rfl)
theorem dX2_mute_37 : decode cX2_mute 37 = .ok (.ireturn, 1) := dk_172 (dk_at dksX2_mute_1 13 rfl rfl)
abbrev cX2_sets : ByteArray := prog_15_method_139_code
def yX2_sets : MethodName := ⟨RX2, "sets", "(II)I"⟩
def dkwX2_sets_0 : List UInt8 := [42, 182, 1, 192, 42, 180, 0, 23, 27, 46, 62, 42, 180, 0, 23, 27, 28, 79, 29, 172]
abbrev dktX2_sets_0 : List UInt8 := dkwX2_sets_0 ++ []
theorem dksX2_sets_0 : cX2_sets.data.toList.drop 0 = dktX2_sets_0 := by decide +kernel
theorem dX2_sets_0 : decode cX2_sets 0 = .ok (.aload_n 0, 1) := dk_42 (dk_at dksX2_sets_0 0 rfl rfl)
theorem dX2_sets_1 : decode cX2_sets 1 = .ok (.invokevirtual 448, 3) := dk_182 1 192 (dk_at dksX2_sets_0 1 rfl rfl)
theorem dX2_sets_4 : decode cX2_sets 4 = .ok (.aload_n 0, 1) := dk_42 (dk_at dksX2_sets_0 4 rfl rfl)
theorem dX2_sets_5 : decode cX2_sets 5 = .ok (.getfield 23, 3) := dk_180 0 23 (dk_at dksX2_sets_0 5 rfl rfl)
theorem dX2_sets_8 : decode cX2_sets 8 = .ok (.iload_n 1, 1) := dk_27 (dk_at dksX2_sets_0 8 rfl rfl)
theorem dX2_sets_9 : decode cX2_sets 9 = .ok (.iaload, 1) := dk_46 (dk_at dksX2_sets_0 9 rfl rfl)
theorem dX2_sets_10 : decode cX2_sets 10 = .ok (.istore_n 3, 1) := dk_62 (dk_at dksX2_sets_0 10 rfl rfl)
theorem dX2_sets_11 : decode cX2_sets 11 = .ok (.aload_n 0, 1) := dk_42 (dk_at dksX2_sets_0 11 rfl rfl)
theorem dX2_sets_12 : decode cX2_sets 12 = .ok (.getfield 23, 3) := dk_180 0 23 (dk_at dksX2_sets_0 12 rfl rfl)
theorem dX2_sets_15 : decode cX2_sets 15 = .ok (.iload_n 1, 1) := dk_27 (dk_at dksX2_sets_0 15 rfl rfl)
theorem dX2_sets_16 : decode cX2_sets 16 = .ok (.iload_n 2, 1) := dk_28 (dk_at dksX2_sets_0 16 rfl rfl)
theorem dX2_sets_17 : decode cX2_sets 17 = .ok (.iastore, 1) := dk_79 (dk_at dksX2_sets_0 17 rfl rfl)
theorem dX2_sets_18 : decode cX2_sets 18 = .ok (.iload_n 3, 1) := dk_29 (dk_at dksX2_sets_0 18 rfl rfl)
theorem dX2_sets_19 : decode cX2_sets 19 = .ok (.ireturn, 1) := dk_172 (dk_at dksX2_sets_0 19 rfl rfl)
abbrev cX2_remember : ByteArray := prog_15_method_37_code
def yX2_remember : MethodName := ⟨RX2, "remember", "()V"⟩
def dkwX2_remember_3 : List UInt8 := [104, 184, 0, 233, 42, 89, 180, 0, 255, 4, 96, 181, 0, 255, 177]
abbrev dktX2_remember_3 : List UInt8 := dkwX2_remember_3 ++ []
def dkwX2_remember_2 : List UInt8 := [180, 0, 255, 4, 100, 181, 0, 255, 42, 180, 0, 23, 3, 42, 180, 0, 32, 17, 9, 151, 42, 180, 0, 255]
abbrev dktX2_remember_2 : List UInt8 := dkwX2_remember_2 ++ dktX2_remember_3
def dkwX2_remember_1 : List UInt8 := [180, 0, 32, 27, 17, 9, 151, 100, 42, 180, 0, 32, 27, 46, 79, 132, 1, 1, 167, 255, 228, 42, 89]
abbrev dktX2_remember_1 : List UInt8 := dkwX2_remember_1 ++ dktX2_remember_2
def dkwX2_remember_0 : List UInt8 := [42, 180, 0, 255, 16, 6, 160, 0, 48, 17, 9, 151, 60, 27, 42, 180, 0, 32, 190, 162, 0, 25, 42]
abbrev dktX2_remember_0 : List UInt8 := dkwX2_remember_0 ++ dktX2_remember_1
theorem dksX2_remember_0 : cX2_remember.data.toList.drop 0 = dktX2_remember_0 := by decide +kernel
theorem dksX2_remember_1 : cX2_remember.data.toList.drop 23 = dktX2_remember_1 := dk_seg dksX2_remember_0 23 rfl rfl
theorem dksX2_remember_2 : cX2_remember.data.toList.drop 46 = dktX2_remember_2 := dk_seg dksX2_remember_1 23 rfl rfl
theorem dksX2_remember_3 : cX2_remember.data.toList.drop 70 = dktX2_remember_3 := dk_seg dksX2_remember_2 24 rfl rfl
theorem dX2_remember_0 : decode cX2_remember 0 = .ok (.aload_n 0, 1) := dk_42 (dk_at dksX2_remember_0 0 rfl rfl)
theorem dX2_remember_1 : decode cX2_remember 1 = .ok (.getfield 255, 3) := dk_180 0 255 (dk_at dksX2_remember_0 1 rfl rfl)
theorem dX2_remember_4 : decode cX2_remember 4 = .ok (.bipush 6, 2) := dk_16 6 (dk_at dksX2_remember_0 4 rfl rfl)
theorem dX2_remember_6 : decode cX2_remember 6 = .ok (.if_icmp .ne 48, 3) := dk_160 0 48 (dk_at dksX2_remember_0 6 rfl rfl)
theorem dX2_remember_9 : decode cX2_remember 9 = .ok (.sipush 2455, 3) := dk_17 9 151 (dk_at dksX2_remember_0 9 rfl rfl)
theorem dX2_remember_12 : decode cX2_remember 12 = .ok (.istore_n 1, 1) := dk_60 (dk_at dksX2_remember_0 12 rfl rfl)
theorem dX2_remember_13 : decode cX2_remember 13 = .ok (.iload_n 1, 1) := dk_27 (dk_at dksX2_remember_0 13 rfl rfl)
theorem dX2_remember_14 : decode cX2_remember 14 = .ok (.aload_n 0, 1) := dk_42 (dk_at dksX2_remember_0 14 rfl rfl)
theorem dX2_remember_15 : decode cX2_remember 15 = .ok (.getfield 32, 3) := dk_180 0 32 (dk_at dksX2_remember_0 15 rfl rfl)
theorem dX2_remember_18 : decode cX2_remember 18 = .ok (.arraylength, 1) := dk_190 (dk_at dksX2_remember_0 18 rfl rfl)
theorem dX2_remember_19 : decode cX2_remember 19 = .ok (.if_icmp .ge 25, 3) := dk_162 0 25 (dk_at dksX2_remember_0 19 rfl rfl)
theorem dX2_remember_22 : decode cX2_remember 22 = .ok (.aload_n 0, 1) := dk_42 (dk_at dksX2_remember_0 22 rfl rfl)
theorem dX2_remember_23 : decode cX2_remember 23 = .ok (.getfield 32, 3) := dk_180 0 32 (dk_at dksX2_remember_1 0 rfl rfl)
theorem dX2_remember_26 : decode cX2_remember 26 = .ok (.iload_n 1, 1) := dk_27 (dk_at dksX2_remember_1 3 rfl rfl)
theorem dX2_remember_27 : decode cX2_remember 27 = .ok (.sipush 2455, 3) := dk_17 9 151 (dk_at dksX2_remember_1 4 rfl rfl)
theorem dX2_remember_30 : decode cX2_remember 30 = .ok (.isub, 1) := dk_100 (dk_at dksX2_remember_1 7 rfl rfl)
theorem dX2_remember_31 : decode cX2_remember 31 = .ok (.aload_n 0, 1) := dk_42 (dk_at dksX2_remember_1 8 rfl rfl)
theorem dX2_remember_32 : decode cX2_remember 32 = .ok (.getfield 32, 3) := dk_180 0 32 (dk_at dksX2_remember_1 9 rfl rfl)
theorem dX2_remember_35 : decode cX2_remember 35 = .ok (.iload_n 1, 1) := dk_27 (dk_at dksX2_remember_1 12 rfl rfl)
theorem dX2_remember_36 : decode cX2_remember 36 = .ok (.iaload, 1) := dk_46 (dk_at dksX2_remember_1 13 rfl rfl)
theorem dX2_remember_37 : decode cX2_remember 37 = .ok (.iastore, 1) := dk_79 (dk_at dksX2_remember_1 14 rfl rfl)
theorem dX2_remember_38 : decode cX2_remember 38 = .ok (.iinc 1 1, 3) := dk_132 1 1 (dk_at dksX2_remember_1 15 rfl rfl)
theorem dX2_remember_41 : decode cX2_remember 41 = .ok (.goto (-28), 3) := dk_167 255 228 (dk_at dksX2_remember_1 18 rfl rfl)
theorem dX2_remember_44 : decode cX2_remember 44 = .ok (.aload_n 0, 1) := dk_42 (dk_at dksX2_remember_1 21 rfl rfl)
theorem dX2_remember_45 : decode cX2_remember 45 = .ok (.dup, 1) := dk_89 (dk_at dksX2_remember_1 22 rfl rfl)
theorem dX2_remember_46 : decode cX2_remember 46 = .ok (.getfield 255, 3) := dk_180 0 255 (dk_at dksX2_remember_2 0 rfl rfl)
theorem dX2_remember_49 : decode cX2_remember 49 = .ok (.iconst 1, 1) := dk_4 (dk_at dksX2_remember_2 3 rfl rfl)
theorem dX2_remember_50 : decode cX2_remember 50 = .ok (.isub, 1) := dk_100 (dk_at dksX2_remember_2 4 rfl rfl)
theorem dX2_remember_51 : decode cX2_remember 51 = .ok (.putfield 255, 3) := dk_181 0 255 (dk_at dksX2_remember_2 5 rfl rfl)
theorem dX2_remember_54 : decode cX2_remember 54 = .ok (.aload_n 0, 1) := dk_42 (dk_at dksX2_remember_2 8 rfl rfl)
theorem dX2_remember_55 : decode cX2_remember 55 = .ok (.getfield 23, 3) := dk_180 0 23 (dk_at dksX2_remember_2 9 rfl rfl)
theorem dX2_remember_58 : decode cX2_remember 58 = .ok (.iconst 0, 1) := dk_3 (dk_at dksX2_remember_2 12 rfl rfl)
theorem dX2_remember_59 : decode cX2_remember 59 = .ok (.aload_n 0, 1) := dk_42 (dk_at dksX2_remember_2 13 rfl rfl)
theorem dX2_remember_60 : decode cX2_remember 60 = .ok (.getfield 32, 3) := dk_180 0 32 (dk_at dksX2_remember_2 14 rfl rfl)
theorem dX2_remember_63 : decode cX2_remember 63 = .ok (.sipush 2455, 3) := dk_17 9 151 (dk_at dksX2_remember_2 17 rfl rfl)
theorem dX2_remember_66 : decode cX2_remember 66 = .ok (.aload_n 0, 1) := dk_42 (dk_at dksX2_remember_2 20 rfl rfl)
theorem dX2_remember_67 : decode cX2_remember 67 = .ok (.getfield 255, 3) := dk_180 0 255 (dk_at dksX2_remember_2 21 rfl rfl)
theorem dX2_remember_70 : decode cX2_remember 70 = .ok (.imul, 1) := dk_104 (dk_at dksX2_remember_3 0 rfl rfl)
theorem dX2_remember_71 : decode cX2_remember 71 = .ok (.invokestatic 233, 3) := dk_184 0 233 (dk_at dksX2_remember_3 1 rfl rfl)
theorem dX2_remember_74 : decode cX2_remember 74 = .ok (.aload_n 0, 1) := dk_42 (dk_at dksX2_remember_3 4 rfl rfl)
theorem dX2_remember_75 : decode cX2_remember 75 = .ok (.dup, 1) := dk_89 (dk_at dksX2_remember_3 5 rfl rfl)
theorem dX2_remember_76 : decode cX2_remember 76 = .ok (.getfield 255, 3) := dk_180 0 255 (dk_at dksX2_remember_3 6 rfl rfl)
theorem dX2_remember_79 : decode cX2_remember 79 = .ok (.iconst 1, 1) := dk_4 (dk_at dksX2_remember_3 9 rfl rfl)
theorem dX2_remember_80 : decode cX2_remember 80 = .ok (.iadd, 1) := dk_96 (dk_at dksX2_remember_3 10 rfl rfl)
theorem dX2_remember_81 : decode cX2_remember 81 = .ok (.putfield 255, 3) := dk_181 0 255 (dk_at dksX2_remember_3 11 rfl rfl)
theorem dX2_remember_84 : decode cX2_remember 84 = .ok (.return_, 1) := dk_177 (dk_at dksX2_remember_3 14 rfl rfl)
abbrev cX2_setWeight : ByteArray := prog_15_method_141_code
def yX2_setWeight : MethodName := ⟨RX2, "setWeight", "(II)I"⟩
def dkwX2_setWeight_1 : List UInt8 := [42, 16, 13, 27, 96, 28, 182, 1, 195, 167, 0, 8, 42, 6, 182, 0, 227, 172]
abbrev dktX2_setWeight_1 : List UInt8 := dkwX2_setWeight_1 ++ []
def dkwX2_setWeight_0 : List UInt8 := [42, 42, 27, 182, 1, 81, 182, 1, 84, 154, 0, 5, 3, 172, 28, 3, 16, 9, 184, 0, 96, 153, 0, 15]
abbrev dktX2_setWeight_0 : List UInt8 := dkwX2_setWeight_0 ++ dktX2_setWeight_1
theorem dksX2_setWeight_0 : cX2_setWeight.data.toList.drop 0 = dktX2_setWeight_0 := by decide +kernel
theorem dksX2_setWeight_1 : cX2_setWeight.data.toList.drop 24 = dktX2_setWeight_1 := dk_seg dksX2_setWeight_0 24 rfl rfl
theorem dX2_setWeight_0 : decode cX2_setWeight 0 = .ok (.aload_n 0, 1) := dk_42 (dk_at dksX2_setWeight_0 0 rfl rfl)
theorem dX2_setWeight_1 : decode cX2_setWeight 1 = .ok (.aload_n 0, 1) := dk_42 (dk_at dksX2_setWeight_0 1 rfl rfl)
theorem dX2_setWeight_2 : decode cX2_setWeight 2 = .ok (.iload_n 1, 1) := dk_27 (dk_at dksX2_setWeight_0 2 rfl rfl)
theorem dX2_setWeight_3 : decode cX2_setWeight 3 = .ok (.invokevirtual 337, 3) := dk_182 1 81 (dk_at dksX2_setWeight_0 3 rfl rfl)
theorem dX2_setWeight_6 : decode cX2_setWeight 6 = .ok (.invokevirtual 340, 3) := dk_182 1 84 (dk_at dksX2_setWeight_0 6 rfl rfl)
theorem dX2_setWeight_9 : decode cX2_setWeight 9 = .ok (.ifCond .ne 5, 3) := dk_154 0 5 (dk_at dksX2_setWeight_0 9 rfl rfl)
theorem dX2_setWeight_12 : decode cX2_setWeight 12 = .ok (.iconst 0, 1) := dk_3 (dk_at dksX2_setWeight_0 12 rfl rfl)
theorem dX2_setWeight_13 : decode cX2_setWeight 13 = .ok (.ireturn, 1) := dk_172 (dk_at dksX2_setWeight_0 13 rfl rfl)
theorem dX2_setWeight_14 : decode cX2_setWeight 14 = .ok (.iload_n 2, 1) := dk_28 (dk_at dksX2_setWeight_0 14 rfl rfl)
theorem dX2_setWeight_15 : decode cX2_setWeight 15 = .ok (.iconst 0, 1) := dk_3 (dk_at dksX2_setWeight_0 15 rfl rfl)
theorem dX2_setWeight_16 : decode cX2_setWeight 16 = .ok (.bipush 9, 2) := dk_16 9 (dk_at dksX2_setWeight_0 16 rfl rfl)
theorem dX2_setWeight_18 : decode cX2_setWeight 18 = .ok (.invokestatic 96, 3) := dk_184 0 96 (dk_at dksX2_setWeight_0 18 rfl rfl)
theorem dX2_setWeight_21 : decode cX2_setWeight 21 = .ok (.ifCond .eq 15, 3) := dk_153 0 15 (dk_at dksX2_setWeight_0 21 rfl rfl)
theorem dX2_setWeight_24 : decode cX2_setWeight 24 = .ok (.aload_n 0, 1) := dk_42 (dk_at dksX2_setWeight_1 0 rfl rfl)
theorem dX2_setWeight_25 : decode cX2_setWeight 25 = .ok (.bipush 13, 2) := dk_16 13 (dk_at dksX2_setWeight_1 1 rfl rfl)
theorem dX2_setWeight_27 : decode cX2_setWeight 27 = .ok (.iload_n 1, 1) := dk_27 (dk_at dksX2_setWeight_1 3 rfl rfl)
theorem dX2_setWeight_28 : decode cX2_setWeight 28 = .ok (.iadd, 1) := dk_96 (dk_at dksX2_setWeight_1 4 rfl rfl)
theorem dX2_setWeight_29 : decode cX2_setWeight 29 = .ok (.iload_n 2, 1) := dk_28 (dk_at dksX2_setWeight_1 5 rfl rfl)
theorem dX2_setWeight_30 : decode cX2_setWeight 30 = .ok (.invokevirtual 451, 3) := dk_182 1 195 (dk_at dksX2_setWeight_1 6 rfl rfl)
theorem dX2_setWeight_33 : decode cX2_setWeight 33 = .ok (.goto 8, 3) := dk_167 0 8 (dk_at dksX2_setWeight_1 9 rfl rfl)
theorem dX2_setWeight_36 : decode cX2_setWeight 36 = .ok (.aload_n 0, 1) := dk_42 (dk_at dksX2_setWeight_1 12 rfl rfl)
theorem dX2_setWeight_37 : decode cX2_setWeight 37 = .ok (.iconst 3, 1) := dk_6 (dk_at dksX2_setWeight_1 13 rfl rfl)
theorem dX2_setWeight_38 : decode cX2_setWeight 38 = .ok (.invokevirtual 227, 3) := dk_182 0 227 (dk_at dksX2_setWeight_1 14 rfl rfl)
theorem dX2_setWeight_41 : decode cX2_setWeight 41 = .ok (.ireturn, 1) := dk_172 (dk_at dksX2_setWeight_1 17 rfl rfl)
abbrev cX2_setOn : ByteArray := prog_15_method_142_code
def yX2_setOn : MethodName := ⟨RX2, "setOn", "(IZ)Z"⟩
def dkwX2_setOn_2 : List UInt8 := [167, 0, 4, 3, 172]
abbrev dktX2_setOn_2 : List UInt8 := dkwX2_setOn_2 ++ []
def dkwX2_setOn_1 : List UInt8 := [167, 0, 4, 3, 182, 1, 195, 62, 42, 42, 180, 0, 23, 182, 0, 247, 29, 4, 160, 0, 7, 4]
abbrev dktX2_setOn_1 : List UInt8 := dkwX2_setOn_1 ++ dktX2_setOn_2
def dkwX2_setOn_0 : List UInt8 := [42, 42, 27, 182, 1, 91, 182, 1, 84, 154, 0, 5, 3, 172, 42, 16, 25, 27, 96, 28, 153, 0, 7, 4]
abbrev dktX2_setOn_0 : List UInt8 := dkwX2_setOn_0 ++ dktX2_setOn_1
theorem dksX2_setOn_0 : cX2_setOn.data.toList.drop 0 = dktX2_setOn_0 := by decide +kernel
theorem dksX2_setOn_1 : cX2_setOn.data.toList.drop 24 = dktX2_setOn_1 := dk_seg dksX2_setOn_0 24 rfl rfl
theorem dksX2_setOn_2 : cX2_setOn.data.toList.drop 46 = dktX2_setOn_2 := dk_seg dksX2_setOn_1 22 rfl rfl
theorem dX2_setOn_0 : decode cX2_setOn 0 = .ok (.aload_n 0, 1) := dk_42 (dk_at dksX2_setOn_0 0 rfl rfl)
theorem dX2_setOn_1 : decode cX2_setOn 1 = .ok (.aload_n 0, 1) := dk_42 (dk_at dksX2_setOn_0 1 rfl rfl)
theorem dX2_setOn_2 : decode cX2_setOn 2 = .ok (.iload_n 1, 1) := dk_27 (dk_at dksX2_setOn_0 2 rfl rfl)
theorem dX2_setOn_3 : decode cX2_setOn 3 = .ok (.invokevirtual 347, 3) := dk_182 1 91 (dk_at dksX2_setOn_0 3 rfl rfl)
theorem dX2_setOn_6 : decode cX2_setOn 6 = .ok (.invokevirtual 340, 3) := dk_182 1 84 (dk_at dksX2_setOn_0 6 rfl rfl)
theorem dX2_setOn_9 : decode cX2_setOn 9 = .ok (.ifCond .ne 5, 3) := dk_154 0 5 (dk_at dksX2_setOn_0 9 rfl rfl)
theorem dX2_setOn_12 : decode cX2_setOn 12 = .ok (.iconst 0, 1) := dk_3 (dk_at dksX2_setOn_0 12 rfl rfl)
theorem dX2_setOn_13 : decode cX2_setOn 13 = .ok (.ireturn, 1) := dk_172 (dk_at dksX2_setOn_0 13 rfl rfl)
theorem dX2_setOn_14 : decode cX2_setOn 14 = .ok (.aload_n 0, 1) := dk_42 (dk_at dksX2_setOn_0 14 rfl rfl)
theorem dX2_setOn_15 : decode cX2_setOn 15 = .ok (.bipush 25, 2) := dk_16 25 (dk_at dksX2_setOn_0 15 rfl rfl)
theorem dX2_setOn_17 : decode cX2_setOn 17 = .ok (.iload_n 1, 1) := dk_27 (dk_at dksX2_setOn_0 17 rfl rfl)
theorem dX2_setOn_18 : decode cX2_setOn 18 = .ok (.iadd, 1) := dk_96 (dk_at dksX2_setOn_0 18 rfl rfl)
theorem dX2_setOn_19 : decode cX2_setOn 19 = .ok (.iload_n 2, 1) := dk_28 (dk_at dksX2_setOn_0 19 rfl rfl)
theorem dX2_setOn_20 : decode cX2_setOn 20 = .ok (.ifCond .eq 7, 3) := dk_153 0 7 (dk_at dksX2_setOn_0 20 rfl rfl)
theorem dX2_setOn_23 : decode cX2_setOn 23 = .ok (.iconst 1, 1) := dk_4 (dk_at dksX2_setOn_0 23 rfl rfl)
theorem dX2_setOn_24 : decode cX2_setOn 24 = .ok (.goto 4, 3) := dk_167 0 4 (dk_at dksX2_setOn_1 0 rfl rfl)
theorem dX2_setOn_27 : decode cX2_setOn 27 = .ok (.iconst 0, 1) := dk_3 (dk_at dksX2_setOn_1 3 rfl rfl)
theorem dX2_setOn_28 : decode cX2_setOn 28 = .ok (.invokevirtual 451, 3) := dk_182 1 195 (dk_at dksX2_setOn_1 4 rfl rfl)
theorem dX2_setOn_31 : decode cX2_setOn 31 = .ok (.istore_n 3, 1) := dk_62 (dk_at dksX2_setOn_1 7 rfl rfl)
theorem dX2_setOn_32 : decode cX2_setOn 32 = .ok (.aload_n 0, 1) := dk_42 (dk_at dksX2_setOn_1 8 rfl rfl)
theorem dX2_setOn_33 : decode cX2_setOn 33 = .ok (.aload_n 0, 1) := dk_42 (dk_at dksX2_setOn_1 9 rfl rfl)
theorem dX2_setOn_34 : decode cX2_setOn 34 = .ok (.getfield 23, 3) := dk_180 0 23 (dk_at dksX2_setOn_1 10 rfl rfl)
theorem dX2_setOn_37 : decode cX2_setOn 37 = .ok (.invokevirtual 247, 3) := dk_182 0 247 (dk_at dksX2_setOn_1 13 rfl rfl)
theorem dX2_setOn_40 : decode cX2_setOn 40 = .ok (.iload_n 3, 1) := dk_29 (dk_at dksX2_setOn_1 16 rfl rfl)
theorem dX2_setOn_41 : decode cX2_setOn 41 = .ok (.iconst 1, 1) := dk_4 (dk_at dksX2_setOn_1 17 rfl rfl)
theorem dX2_setOn_42 : decode cX2_setOn 42 = .ok (.if_icmp .ne 7, 3) := dk_160 0 7 (dk_at dksX2_setOn_1 18 rfl rfl)
theorem dX2_setOn_45 : decode cX2_setOn 45 = .ok (.iconst 1, 1) := dk_4 (dk_at dksX2_setOn_1 21 rfl rfl)
theorem dX2_setOn_46 : decode cX2_setOn 46 = .ok (.goto 4, 3) := dk_167 0 4 (dk_at dksX2_setOn_2 0 rfl rfl)
theorem dX2_setOn_49 : decode cX2_setOn 49 = .ok (.iconst 0, 1) := dk_3 (dk_at dksX2_setOn_2 3 rfl rfl)
theorem dX2_setOn_50 : decode cX2_setOn 50 = .ok (.ireturn, 1) := dk_172 (dk_at dksX2_setOn_2 4 rfl rfl)
abbrev cX2_moveSource : ByteArray := prog_15_method_144_code
def yX2_moveSource : MethodName := ⟨RX2, "moveSource", "(III)I"⟩
def dkwX2_moveSource_2 : List UInt8 := [182, 1, 198, 167, 0, 8, 42, 6, 182, 0, 227, 172]
abbrev dktX2_moveSource_2 : List UInt8 := dkwX2_moveSource_2 ++ []
def dkwX2_moveSource_1 : List UInt8 := [153, 0, 29, 29, 17, 248, 48, 17, 7, 208, 184, 0, 96, 153, 0, 16, 42, 16, 31, 27, 96, 28, 29]
abbrev dktX2_moveSource_1 : List UInt8 := dkwX2_moveSource_1 ++ dktX2_moveSource_2
def dkwX2_moveSource_0 : List UInt8 := [42, 42, 27, 182, 1, 91, 182, 1, 84, 154, 0, 5, 3, 172, 28, 17, 248, 48, 17, 7, 208, 184, 0, 96]
abbrev dktX2_moveSource_0 : List UInt8 := dkwX2_moveSource_0 ++ dktX2_moveSource_1
theorem dksX2_moveSource_0 : cX2_moveSource.data.toList.drop 0 = dktX2_moveSource_0 := by decide +kernel
theorem dksX2_moveSource_1 : cX2_moveSource.data.toList.drop 24 = dktX2_moveSource_1 := dk_seg dksX2_moveSource_0 24 rfl rfl
theorem dksX2_moveSource_2 : cX2_moveSource.data.toList.drop 47 = dktX2_moveSource_2 := dk_seg dksX2_moveSource_1 23 rfl rfl
theorem dX2_moveSource_0 : decode cX2_moveSource 0 = .ok (.aload_n 0, 1) := dk_42 (dk_at dksX2_moveSource_0 0 rfl rfl)
theorem dX2_moveSource_1 : decode cX2_moveSource 1 = .ok (.aload_n 0, 1) := dk_42 (dk_at dksX2_moveSource_0 1 rfl rfl)
theorem dX2_moveSource_2 : decode cX2_moveSource 2 = .ok (.iload_n 1, 1) := dk_27 (dk_at dksX2_moveSource_0 2 rfl rfl)
theorem dX2_moveSource_3 : decode cX2_moveSource 3 = .ok (.invokevirtual 347, 3) := dk_182 1 91 (dk_at dksX2_moveSource_0 3 rfl rfl)
theorem dX2_moveSource_6 : decode cX2_moveSource 6 = .ok (.invokevirtual 340, 3) := dk_182 1 84 (dk_at dksX2_moveSource_0 6 rfl rfl)
theorem dX2_moveSource_9 : decode cX2_moveSource 9 = .ok (.ifCond .ne 5, 3) := dk_154 0 5 (dk_at dksX2_moveSource_0 9 rfl rfl)
theorem dX2_moveSource_12 : decode cX2_moveSource 12 = .ok (.iconst 0, 1) := dk_3 (dk_at dksX2_moveSource_0 12 rfl rfl)
theorem dX2_moveSource_13 : decode cX2_moveSource 13 = .ok (.ireturn, 1) := dk_172 (dk_at dksX2_moveSource_0 13 rfl rfl)
theorem dX2_moveSource_14 : decode cX2_moveSource 14 = .ok (.iload_n 2, 1) := dk_28 (dk_at dksX2_moveSource_0 14 rfl rfl)
theorem dX2_moveSource_15 : decode cX2_moveSource 15 = .ok (.sipush (-2000), 3) := dk_17 248 48 (dk_at dksX2_moveSource_0 15 rfl rfl)
theorem dX2_moveSource_18 : decode cX2_moveSource 18 = .ok (.sipush 2000, 3) := dk_17 7 208 (dk_at dksX2_moveSource_0 18 rfl rfl)
theorem dX2_moveSource_21 : decode cX2_moveSource 21 = .ok (.invokestatic 96, 3) := dk_184 0 96 (dk_at dksX2_moveSource_0 21 rfl rfl)
theorem dX2_moveSource_24 : decode cX2_moveSource 24 = .ok (.ifCond .eq 29, 3) := dk_153 0 29 (dk_at dksX2_moveSource_1 0 rfl rfl)
theorem dX2_moveSource_27 : decode cX2_moveSource 27 = .ok (.iload_n 3, 1) := dk_29 (dk_at dksX2_moveSource_1 3 rfl rfl)
theorem dX2_moveSource_28 : decode cX2_moveSource 28 = .ok (.sipush (-2000), 3) := dk_17 248 48 (dk_at dksX2_moveSource_1 4 rfl rfl)
theorem dX2_moveSource_31 : decode cX2_moveSource 31 = .ok (.sipush 2000, 3) := dk_17 7 208 (dk_at dksX2_moveSource_1 7 rfl rfl)
theorem dX2_moveSource_34 : decode cX2_moveSource 34 = .ok (.invokestatic 96, 3) := dk_184 0 96 (dk_at dksX2_moveSource_1 10 rfl rfl)
theorem dX2_moveSource_37 : decode cX2_moveSource 37 = .ok (.ifCond .eq 16, 3) := dk_153 0 16 (dk_at dksX2_moveSource_1 13 rfl rfl)
theorem dX2_moveSource_40 : decode cX2_moveSource 40 = .ok (.aload_n 0, 1) := dk_42 (dk_at dksX2_moveSource_1 16 rfl rfl)
theorem dX2_moveSource_41 : decode cX2_moveSource 41 = .ok (.bipush 31, 2) := dk_16 31 (dk_at dksX2_moveSource_1 17 rfl rfl)
theorem dX2_moveSource_43 : decode cX2_moveSource 43 = .ok (.iload_n 1, 1) := dk_27 (dk_at dksX2_moveSource_1 19 rfl rfl)
theorem dX2_moveSource_44 : decode cX2_moveSource 44 = .ok (.iadd, 1) := dk_96 (dk_at dksX2_moveSource_1 20 rfl rfl)
theorem dX2_moveSource_45 : decode cX2_moveSource 45 = .ok (.iload_n 2, 1) := dk_28 (dk_at dksX2_moveSource_1 21 rfl rfl)
theorem dX2_moveSource_46 : decode cX2_moveSource 46 = .ok (.iload_n 3, 1) := dk_29 (dk_at dksX2_moveSource_1 22 rfl rfl)
theorem dX2_moveSource_47 : decode cX2_moveSource 47 = .ok (.invokevirtual 454, 3) := dk_182 1 198 (dk_at dksX2_moveSource_2 0 rfl rfl)
theorem dX2_moveSource_50 : decode cX2_moveSource 50 = .ok (.goto 8, 3) := dk_167 0 8 (dk_at dksX2_moveSource_2 3 rfl rfl)
theorem dX2_moveSource_53 : decode cX2_moveSource 53 = .ok (.aload_n 0, 1) := dk_42 (dk_at dksX2_moveSource_2 6 rfl rfl)
theorem dX2_moveSource_54 : decode cX2_moveSource 54 = .ok (.iconst 3, 1) := dk_6 (dk_at dksX2_moveSource_2 7 rfl rfl)
theorem dX2_moveSource_55 : decode cX2_moveSource 55 = .ok (.invokevirtual 227, 3) := dk_182 0 227 (dk_at dksX2_moveSource_2 8 rfl rfl)
theorem dX2_moveSource_58 : decode cX2_moveSource 58 = .ok (.ireturn, 1) := dk_172 (dk_at dksX2_moveSource_2 11 rfl rfl)
abbrev cX2_setsTwo : ByteArray := prog_15_method_143_code
def yX2_setsTwo : MethodName := ⟨RX2, "setsTwo", "(III)I"⟩
def dkwX2_setsTwo_1 : List UInt8 := [182, 0, 247, 42, 42, 180, 0, 23, 182, 1, 111, 172]
abbrev dktX2_setsTwo_1 : List UInt8 := dkwX2_setsTwo_1 ++ []
def dkwX2_setsTwo_0 : List UInt8 := [42, 27, 28, 182, 1, 195, 54, 4, 42, 180, 0, 23, 27, 16, 6, 96, 29, 79, 42, 42, 180, 0, 23]
abbrev dktX2_setsTwo_0 : List UInt8 := dkwX2_setsTwo_0 ++ dktX2_setsTwo_1
theorem dksX2_setsTwo_0 : cX2_setsTwo.data.toList.drop 0 = dktX2_setsTwo_0 := by decide +kernel
theorem dksX2_setsTwo_1 : cX2_setsTwo.data.toList.drop 23 = dktX2_setsTwo_1 := dk_seg dksX2_setsTwo_0 23 rfl rfl
theorem dX2_setsTwo_0 : decode cX2_setsTwo 0 = .ok (.aload_n 0, 1) := dk_42 (dk_at dksX2_setsTwo_0 0 rfl rfl)
theorem dX2_setsTwo_1 : decode cX2_setsTwo 1 = .ok (.iload_n 1, 1) := dk_27 (dk_at dksX2_setsTwo_0 1 rfl rfl)
theorem dX2_setsTwo_2 : decode cX2_setsTwo 2 = .ok (.iload_n 2, 1) := dk_28 (dk_at dksX2_setsTwo_0 2 rfl rfl)
theorem dX2_setsTwo_3 : decode cX2_setsTwo 3 = .ok (.invokevirtual 451, 3) := dk_182 1 195 (dk_at dksX2_setsTwo_0 3 rfl rfl)
theorem dX2_setsTwo_6 : decode cX2_setsTwo 6 = .ok (.istore 4, 2) := dk_54 4 (dk_at dksX2_setsTwo_0 6 rfl rfl)
theorem dX2_setsTwo_8 : decode cX2_setsTwo 8 = .ok (.aload_n 0, 1) := dk_42 (dk_at dksX2_setsTwo_0 8 rfl rfl)
theorem dX2_setsTwo_9 : decode cX2_setsTwo 9 = .ok (.getfield 23, 3) := dk_180 0 23 (dk_at dksX2_setsTwo_0 9 rfl rfl)
theorem dX2_setsTwo_12 : decode cX2_setsTwo 12 = .ok (.iload_n 1, 1) := dk_27 (dk_at dksX2_setsTwo_0 12 rfl rfl)
theorem dX2_setsTwo_13 : decode cX2_setsTwo 13 = .ok (.bipush 6, 2) := dk_16 6 (dk_at dksX2_setsTwo_0 13 rfl rfl)
theorem dX2_setsTwo_15 : decode cX2_setsTwo 15 = .ok (.iadd, 1) := dk_96 (dk_at dksX2_setsTwo_0 15 rfl rfl)
theorem dX2_setsTwo_16 : decode cX2_setsTwo 16 = .ok (.iload_n 3, 1) := dk_29 (dk_at dksX2_setsTwo_0 16 rfl rfl)
theorem dX2_setsTwo_17 : decode cX2_setsTwo 17 = .ok (.iastore, 1) := dk_79 (dk_at dksX2_setsTwo_0 17 rfl rfl)
theorem dX2_setsTwo_18 : decode cX2_setsTwo 18 = .ok (.aload_n 0, 1) := dk_42 (dk_at dksX2_setsTwo_0 18 rfl rfl)
theorem dX2_setsTwo_19 : decode cX2_setsTwo 19 = .ok (.aload_n 0, 1) := dk_42 (dk_at dksX2_setsTwo_0 19 rfl rfl)
theorem dX2_setsTwo_20 : decode cX2_setsTwo 20 = .ok (.getfield 23, 3) := dk_180 0 23 (dk_at dksX2_setsTwo_0 20 rfl rfl)
theorem dX2_setsTwo_23 : decode cX2_setsTwo 23 = .ok (.invokevirtual 247, 3) := dk_182 0 247 (dk_at dksX2_setsTwo_1 0 rfl rfl)
theorem dX2_setsTwo_26 : decode cX2_setsTwo 26 = .ok (.aload_n 0, 1) := dk_42 (dk_at dksX2_setsTwo_1 3 rfl rfl)
theorem dX2_setsTwo_27 : decode cX2_setsTwo 27 = .ok (.aload_n 0, 1) := dk_42 (dk_at dksX2_setsTwo_1 4 rfl rfl)
theorem dX2_setsTwo_28 : decode cX2_setsTwo 28 = .ok (.getfield 23, 3) := dk_180 0 23 (dk_at dksX2_setsTwo_1 5 rfl rfl)
theorem dX2_setsTwo_31 : decode cX2_setsTwo 31 = .ok (.invokevirtual 367, 3) := dk_182 1 111 (dk_at dksX2_setsTwo_1 8 rfl rfl)
theorem dX2_setsTwo_34 : decode cX2_setsTwo 34 = .ok (.ireturn, 1) := dk_172 (dk_at dksX2_setsTwo_1 11 rfl rfl)
abbrev cX2_setVelocity : ByteArray := prog_15_method_145_code
def yX2_setVelocity : MethodName := ⟨RX2, "setVelocity", "(III)I"⟩
def dkwX2_setVelocity_1 : List UInt8 := [16, 43, 27, 96, 28, 29, 182, 1, 198, 167, 0, 8, 42, 6, 182, 0, 227, 172]
abbrev dktX2_setVelocity_1 : List UInt8 := dkwX2_setVelocity_1 ++ []
def dkwX2_setVelocity_0 : List UInt8 := [42, 42, 27, 182, 1, 91, 182, 1, 84, 154, 0, 5, 3, 172, 28, 29, 184, 1, 170, 153, 0, 16, 42]
abbrev dktX2_setVelocity_0 : List UInt8 := dkwX2_setVelocity_0 ++ dktX2_setVelocity_1
theorem dksX2_setVelocity_0 : cX2_setVelocity.data.toList.drop 0 = dktX2_setVelocity_0 := by decide +kernel
theorem dksX2_setVelocity_1 : cX2_setVelocity.data.toList.drop 23 = dktX2_setVelocity_1 := dk_seg dksX2_setVelocity_0 23 rfl rfl
theorem dX2_setVelocity_0 : decode cX2_setVelocity 0 = .ok (.aload_n 0, 1) := dk_42 (dk_at dksX2_setVelocity_0 0 rfl rfl)
theorem dX2_setVelocity_1 : decode cX2_setVelocity 1 = .ok (.aload_n 0, 1) := dk_42 (dk_at dksX2_setVelocity_0 1 rfl rfl)
theorem dX2_setVelocity_2 : decode cX2_setVelocity 2 = .ok (.iload_n 1, 1) := dk_27 (dk_at dksX2_setVelocity_0 2 rfl rfl)
theorem dX2_setVelocity_3 : decode cX2_setVelocity 3 = .ok (.invokevirtual 347, 3) := dk_182 1 91 (dk_at dksX2_setVelocity_0 3 rfl rfl)
theorem dX2_setVelocity_6 : decode cX2_setVelocity 6 = .ok (.invokevirtual 340, 3) := dk_182 1 84 (dk_at dksX2_setVelocity_0 6 rfl rfl)
theorem dX2_setVelocity_9 : decode cX2_setVelocity 9 = .ok (.ifCond .ne 5, 3) := dk_154 0 5 (dk_at dksX2_setVelocity_0 9 rfl rfl)
theorem dX2_setVelocity_12 : decode cX2_setVelocity 12 = .ok (.iconst 0, 1) := dk_3 (dk_at dksX2_setVelocity_0 12 rfl rfl)
theorem dX2_setVelocity_13 : decode cX2_setVelocity 13 = .ok (.ireturn, 1) := dk_172 (dk_at dksX2_setVelocity_0 13 rfl rfl)
theorem dX2_setVelocity_14 : decode cX2_setVelocity 14 = .ok (.iload_n 2, 1) := dk_28 (dk_at dksX2_setVelocity_0 14 rfl rfl)
theorem dX2_setVelocity_15 : decode cX2_setVelocity 15 = .ok (.iload_n 3, 1) := dk_29 (dk_at dksX2_setVelocity_0 15 rfl rfl)
theorem dX2_setVelocity_16 : decode cX2_setVelocity 16 = .ok (.invokestatic 426, 3) := dk_184 1 170 (dk_at dksX2_setVelocity_0 16 rfl rfl)
theorem dX2_setVelocity_19 : decode cX2_setVelocity 19 = .ok (.ifCond .eq 16, 3) := dk_153 0 16 (dk_at dksX2_setVelocity_0 19 rfl rfl)
theorem dX2_setVelocity_22 : decode cX2_setVelocity 22 = .ok (.aload_n 0, 1) := dk_42 (dk_at dksX2_setVelocity_0 22 rfl rfl)
theorem dX2_setVelocity_23 : decode cX2_setVelocity 23 = .ok (.bipush 43, 2) := dk_16 43 (dk_at dksX2_setVelocity_1 0 rfl rfl)
theorem dX2_setVelocity_25 : decode cX2_setVelocity 25 = .ok (.iload_n 1, 1) := dk_27 (dk_at dksX2_setVelocity_1 2 rfl rfl)
theorem dX2_setVelocity_26 : decode cX2_setVelocity 26 = .ok (.iadd, 1) := dk_96 (dk_at dksX2_setVelocity_1 3 rfl rfl)
theorem dX2_setVelocity_27 : decode cX2_setVelocity 27 = .ok (.iload_n 2, 1) := dk_28 (dk_at dksX2_setVelocity_1 4 rfl rfl)
theorem dX2_setVelocity_28 : decode cX2_setVelocity 28 = .ok (.iload_n 3, 1) := dk_29 (dk_at dksX2_setVelocity_1 5 rfl rfl)
theorem dX2_setVelocity_29 : decode cX2_setVelocity 29 = .ok (.invokevirtual 454, 3) := dk_182 1 198 (dk_at dksX2_setVelocity_1 6 rfl rfl)
theorem dX2_setVelocity_32 : decode cX2_setVelocity 32 = .ok (.goto 8, 3) := dk_167 0 8 (dk_at dksX2_setVelocity_1 9 rfl rfl)
theorem dX2_setVelocity_35 : decode cX2_setVelocity 35 = .ok (.aload_n 0, 1) := dk_42 (dk_at dksX2_setVelocity_1 12 rfl rfl)
theorem dX2_setVelocity_36 : decode cX2_setVelocity 36 = .ok (.iconst 3, 1) := dk_6 (dk_at dksX2_setVelocity_1 13 rfl rfl)
theorem dX2_setVelocity_37 : decode cX2_setVelocity 37 = .ok (.invokevirtual 227, 3) := dk_182 0 227 (dk_at dksX2_setVelocity_1 14 rfl rfl)
theorem dX2_setVelocity_40 : decode cX2_setVelocity 40 = .ok (.ireturn, 1) := dk_172 (dk_at dksX2_setVelocity_1 17 rfl rfl)
abbrev cX2_clean : ByteArray := prog_15_method_147_code
def yX2_clean : MethodName := ⟨RX2, "clean", "(I)I"⟩
def dkwX2_clean_9 : List UInt8 := [4, 96, 79, 28, 172]
abbrev dktX2_clean_9 : List UInt8 := dkwX2_clean_9 ++ []
def dkwX2_clean_8 : List UInt8 := [133, 109, 136, 100, 79, 132, 5, 1, 167, 255, 185, 132, 4, 1, 167, 255, 165, 42, 180, 0, 23, 3, 92, 46]
abbrev dktX2_clean_8 : List UInt8 := dkwX2_clean_8 ++ dktX2_clean_9
def dkwX2_clean_7 : List UInt8 := [21, 4, 46, 96, 92, 46, 42, 180, 0, 64, 21, 5, 46, 133, 27, 133, 105, 16, 100, 42, 182, 1, 201, 104]
abbrev dktX2_clean_7 : List UInt8 := dkwX2_clean_7 ++ dktX2_clean_8
def dkwX2_clean_6 : List UInt8 := [153, 0, 58, 42, 180, 0, 23, 16, 55, 17, 0, 200, 21, 4, 104, 96, 21, 5, 96, 42, 180, 0, 51]
abbrev dktX2_clean_6 : List UInt8 := dkwX2_clean_6 ++ dktX2_clean_7
def dkwX2_clean_5 : List UInt8 := [162, 0, 86, 3, 54, 5, 21, 5, 29, 162, 0, 71, 42, 42, 180, 0, 23, 21, 4, 182, 1, 48]
abbrev dktX2_clean_5 : List UInt8 := dkwX2_clean_5 ++ dktX2_clean_6
def dkwX2_clean_4 : List UInt8 := [21, 4, 182, 1, 52, 79, 132, 4, 1, 167, 255, 230, 3, 54, 4, 21, 4, 42, 180, 0, 17, 7, 46]
abbrev dktX2_clean_4 : List UInt8 := dkwX2_clean_4 ++ dktX2_clean_5
def dkwX2_clean_3 : List UInt8 := [182, 1, 56, 62, 3, 54, 4, 21, 4, 29, 162, 0, 26, 42, 180, 0, 64, 21, 4, 42, 42, 180, 0, 23]
abbrev dktX2_clean_3 : List UInt8 := dkwX2_clean_3 ++ dktX2_clean_4
def dkwX2_clean_2 : List UInt8 := [182, 1, 192, 42, 42, 180, 0, 23, 182, 1, 111, 61, 42, 28, 182, 1, 64, 42, 42, 180, 0, 23]
abbrev dktX2_clean_2 : List UInt8 := dkwX2_clean_2 ++ dktX2_clean_3
def dkwX2_clean_1 : List UInt8 := [184, 0, 96, 153, 0, 7, 3, 167, 0, 4, 5, 181, 0, 67, 42, 180, 0, 67, 158, 0, 5, 3, 172, 42]
abbrev dktX2_clean_1 : List UInt8 := dkwX2_clean_1 ++ dktX2_clean_2
def dkwX2_clean_0 : List UInt8 := [42, 42, 180, 0, 251, 153, 0, 10, 42, 182, 1, 201, 154, 0, 7, 4, 167, 0, 18, 27, 4, 16, 100]
abbrev dktX2_clean_0 : List UInt8 := dkwX2_clean_0 ++ dktX2_clean_1
theorem dksX2_clean_0 : cX2_clean.data.toList.drop 0 = dktX2_clean_0 := by decide +kernel
theorem dksX2_clean_1 : cX2_clean.data.toList.drop 23 = dktX2_clean_1 := dk_seg dksX2_clean_0 23 rfl rfl
theorem dksX2_clean_2 : cX2_clean.data.toList.drop 47 = dktX2_clean_2 := dk_seg dksX2_clean_1 24 rfl rfl
theorem dksX2_clean_3 : cX2_clean.data.toList.drop 69 = dktX2_clean_3 := dk_seg dksX2_clean_2 22 rfl rfl
theorem dksX2_clean_4 : cX2_clean.data.toList.drop 93 = dktX2_clean_4 := dk_seg dksX2_clean_3 24 rfl rfl
theorem dksX2_clean_5 : cX2_clean.data.toList.drop 116 = dktX2_clean_5 := dk_seg dksX2_clean_4 23 rfl rfl
theorem dksX2_clean_6 : cX2_clean.data.toList.drop 138 = dktX2_clean_6 := dk_seg dksX2_clean_5 22 rfl rfl
theorem dksX2_clean_7 : cX2_clean.data.toList.drop 161 = dktX2_clean_7 := dk_seg dksX2_clean_6 23 rfl rfl
theorem dksX2_clean_8 : cX2_clean.data.toList.drop 185 = dktX2_clean_8 := dk_seg dksX2_clean_7 24 rfl rfl
theorem dksX2_clean_9 : cX2_clean.data.toList.drop 209 = dktX2_clean_9 := dk_seg dksX2_clean_8 24 rfl rfl
theorem dX2_clean_0 : decode cX2_clean 0 = .ok (.aload_n 0, 1) := dk_42 (dk_at dksX2_clean_0 0 rfl rfl)
theorem dX2_clean_1 : decode cX2_clean 1 = .ok (.aload_n 0, 1) := dk_42 (dk_at dksX2_clean_0 1 rfl rfl)
theorem dX2_clean_2 : decode cX2_clean 2 = .ok (.getfield 251, 3) := dk_180 0 251 (dk_at dksX2_clean_0 2 rfl rfl)
theorem dX2_clean_5 : decode cX2_clean 5 = .ok (.ifCond .eq 10, 3) := dk_153 0 10 (dk_at dksX2_clean_0 5 rfl rfl)
theorem dX2_clean_8 : decode cX2_clean 8 = .ok (.aload_n 0, 1) := dk_42 (dk_at dksX2_clean_0 8 rfl rfl)
theorem dX2_clean_9 : decode cX2_clean 9 = .ok (.invokevirtual 457, 3) := dk_182 1 201 (dk_at dksX2_clean_0 9 rfl rfl)
theorem dX2_clean_12 : decode cX2_clean 12 = .ok (.ifCond .ne 7, 3) := dk_154 0 7 (dk_at dksX2_clean_0 12 rfl rfl)
theorem dX2_clean_15 : decode cX2_clean 15 = .ok (.iconst 1, 1) := dk_4 (dk_at dksX2_clean_0 15 rfl rfl)
theorem dX2_clean_16 : decode cX2_clean 16 = .ok (.goto 18, 3) := dk_167 0 18 (dk_at dksX2_clean_0 16 rfl rfl)
theorem dX2_clean_19 : decode cX2_clean 19 = .ok (.iload_n 1, 1) := dk_27 (dk_at dksX2_clean_0 19 rfl rfl)
theorem dX2_clean_20 : decode cX2_clean 20 = .ok (.iconst 1, 1) := dk_4 (dk_at dksX2_clean_0 20 rfl rfl)
theorem dX2_clean_21 : decode cX2_clean 21 = .ok (.bipush 100, 2) := dk_16 100 (dk_at dksX2_clean_0 21 rfl rfl)
theorem dX2_clean_23 : decode cX2_clean 23 = .ok (.invokestatic 96, 3) := dk_184 0 96 (dk_at dksX2_clean_1 0 rfl rfl)
theorem dX2_clean_26 : decode cX2_clean 26 = .ok (.ifCond .eq 7, 3) := dk_153 0 7 (dk_at dksX2_clean_1 3 rfl rfl)
theorem dX2_clean_29 : decode cX2_clean 29 = .ok (.iconst 0, 1) := dk_3 (dk_at dksX2_clean_1 6 rfl rfl)
theorem dX2_clean_30 : decode cX2_clean 30 = .ok (.goto 4, 3) := dk_167 0 4 (dk_at dksX2_clean_1 7 rfl rfl)
theorem dX2_clean_33 : decode cX2_clean 33 = .ok (.iconst 2, 1) := dk_5 (dk_at dksX2_clean_1 10 rfl rfl)
theorem dX2_clean_34 : decode cX2_clean 34 = .ok (.putfield 67, 3) := dk_181 0 67 (dk_at dksX2_clean_1 11 rfl rfl)
theorem dX2_clean_37 : decode cX2_clean 37 = .ok (.aload_n 0, 1) := dk_42 (dk_at dksX2_clean_1 14 rfl rfl)
theorem dX2_clean_38 : decode cX2_clean 38 = .ok (.getfield 67, 3) := dk_180 0 67 (dk_at dksX2_clean_1 15 rfl rfl)
theorem dX2_clean_41 : decode cX2_clean 41 = .ok (.ifCond .le 5, 3) := dk_158 0 5 (dk_at dksX2_clean_1 18 rfl rfl)
theorem dX2_clean_44 : decode cX2_clean 44 = .ok (.iconst 0, 1) := dk_3 (dk_at dksX2_clean_1 21 rfl rfl)
theorem dX2_clean_45 : decode cX2_clean 45 = .ok (.ireturn, 1) := dk_172 (dk_at dksX2_clean_1 22 rfl rfl)
theorem dX2_clean_46 : decode cX2_clean 46 = .ok (.aload_n 0, 1) := dk_42 (dk_at dksX2_clean_1 23 rfl rfl)
theorem dX2_clean_47 : decode cX2_clean 47 = .ok (.invokevirtual 448, 3) := dk_182 1 192 (dk_at dksX2_clean_2 0 rfl rfl)
theorem dX2_clean_50 : decode cX2_clean 50 = .ok (.aload_n 0, 1) := dk_42 (dk_at dksX2_clean_2 3 rfl rfl)
theorem dX2_clean_51 : decode cX2_clean 51 = .ok (.aload_n 0, 1) := dk_42 (dk_at dksX2_clean_2 4 rfl rfl)
theorem dX2_clean_52 : decode cX2_clean 52 = .ok (.getfield 23, 3) := dk_180 0 23 (dk_at dksX2_clean_2 5 rfl rfl)
theorem dX2_clean_55 : decode cX2_clean 55 = .ok (.invokevirtual 367, 3) := dk_182 1 111 (dk_at dksX2_clean_2 8 rfl rfl)
theorem dX2_clean_58 : decode cX2_clean 58 = .ok (.istore_n 2, 1) := dk_61 (dk_at dksX2_clean_2 11 rfl rfl)
theorem dX2_clean_59 : decode cX2_clean 59 = .ok (.aload_n 0, 1) := dk_42 (dk_at dksX2_clean_2 12 rfl rfl)
theorem dX2_clean_60 : decode cX2_clean 60 = .ok (.iload_n 2, 1) := dk_28 (dk_at dksX2_clean_2 13 rfl rfl)
theorem dX2_clean_61 : decode cX2_clean 61 = .ok (.invokevirtual 320, 3) := dk_182 1 64 (dk_at dksX2_clean_2 14 rfl rfl)
theorem dX2_clean_64 : decode cX2_clean 64 = .ok (.aload_n 0, 1) := dk_42 (dk_at dksX2_clean_2 17 rfl rfl)
theorem dX2_clean_65 : decode cX2_clean 65 = .ok (.aload_n 0, 1) := dk_42 (dk_at dksX2_clean_2 18 rfl rfl)
theorem dX2_clean_66 : decode cX2_clean 66 = .ok (.getfield 23, 3) := dk_180 0 23 (dk_at dksX2_clean_2 19 rfl rfl)
theorem dX2_clean_69 : decode cX2_clean 69 = .ok (.invokevirtual 312, 3) := dk_182 1 56 (dk_at dksX2_clean_3 0 rfl rfl)
theorem dX2_clean_72 : decode cX2_clean 72 = .ok (.istore_n 3, 1) := dk_62 (dk_at dksX2_clean_3 3 rfl rfl)
theorem dX2_clean_73 : decode cX2_clean 73 = .ok (.iconst 0, 1) := dk_3 (dk_at dksX2_clean_3 4 rfl rfl)
theorem dX2_clean_74 : decode cX2_clean 74 = .ok (.istore 4, 2) := dk_54 4 (dk_at dksX2_clean_3 5 rfl rfl)
theorem dX2_clean_76 : decode cX2_clean 76 = .ok (.iload 4, 2) := dk_21 4 (dk_at dksX2_clean_3 7 rfl rfl)
theorem dX2_clean_78 : decode cX2_clean 78 = .ok (.iload_n 3, 1) := dk_29 (dk_at dksX2_clean_3 9 rfl rfl)
theorem dX2_clean_79 : decode cX2_clean 79 = .ok (.if_icmp .ge 26, 3) := dk_162 0 26 (dk_at dksX2_clean_3 10 rfl rfl)
theorem dX2_clean_82 : decode cX2_clean 82 = .ok (.aload_n 0, 1) := dk_42 (dk_at dksX2_clean_3 13 rfl rfl)
theorem dX2_clean_83 : decode cX2_clean 83 = .ok (.getfield 64, 3) := dk_180 0 64 (dk_at dksX2_clean_3 14 rfl rfl)
theorem dX2_clean_86 : decode cX2_clean 86 = .ok (.iload 4, 2) := dk_21 4 (dk_at dksX2_clean_3 17 rfl rfl)
theorem dX2_clean_88 : decode cX2_clean 88 = .ok (.aload_n 0, 1) := dk_42 (dk_at dksX2_clean_3 19 rfl rfl)
theorem dX2_clean_89 : decode cX2_clean 89 = .ok (.aload_n 0, 1) := dk_42 (dk_at dksX2_clean_3 20 rfl rfl)
theorem dX2_clean_90 : decode cX2_clean 90 = .ok (.getfield 23, 3) := dk_180 0 23 (dk_at dksX2_clean_3 21 rfl rfl)
theorem dX2_clean_93 : decode cX2_clean 93 = .ok (.iload 4, 2) := dk_21 4 (dk_at dksX2_clean_4 0 rfl rfl)
theorem dX2_clean_95 : decode cX2_clean 95 = .ok (.invokevirtual 308, 3) := dk_182 1 52 (dk_at dksX2_clean_4 2 rfl rfl)
theorem dX2_clean_98 : decode cX2_clean 98 = .ok (.iastore, 1) := dk_79 (dk_at dksX2_clean_4 5 rfl rfl)
theorem dX2_clean_99 : decode cX2_clean 99 = .ok (.iinc 4 1, 3) := dk_132 4 1 (dk_at dksX2_clean_4 6 rfl rfl)
theorem dX2_clean_102 : decode cX2_clean 102 = .ok (.goto (-26), 3) := dk_167 255 230 (dk_at dksX2_clean_4 9 rfl rfl)
theorem dX2_clean_105 : decode cX2_clean 105 = .ok (.iconst 0, 1) := dk_3 (dk_at dksX2_clean_4 12 rfl rfl)
theorem dX2_clean_106 : decode cX2_clean 106 = .ok (.istore 4, 2) := dk_54 4 (dk_at dksX2_clean_4 13 rfl rfl)
theorem dX2_clean_108 : decode cX2_clean 108 = .ok (.iload 4, 2) := dk_21 4 (dk_at dksX2_clean_4 15 rfl rfl)
theorem dX2_clean_110 : decode cX2_clean 110 = .ok (.aload_n 0, 1) := dk_42 (dk_at dksX2_clean_4 17 rfl rfl)
theorem dX2_clean_111 : decode cX2_clean 111 = .ok (.getfield 17, 3) := dk_180 0 17 (dk_at dksX2_clean_4 18 rfl rfl)
theorem dX2_clean_114 : decode cX2_clean 114 = .ok (.iconst 4, 1) := dk_7 (dk_at dksX2_clean_4 21 rfl rfl)
theorem dX2_clean_115 : decode cX2_clean 115 = .ok (.iaload, 1) := dk_46 (dk_at dksX2_clean_4 22 rfl rfl)
theorem dX2_clean_116 : decode cX2_clean 116 = .ok (.if_icmp .ge 86, 3) := dk_162 0 86 (dk_at dksX2_clean_5 0 rfl rfl)
theorem dX2_clean_119 : decode cX2_clean 119 = .ok (.iconst 0, 1) := dk_3 (dk_at dksX2_clean_5 3 rfl rfl)
theorem dX2_clean_120 : decode cX2_clean 120 = .ok (.istore 5, 2) := dk_54 5 (dk_at dksX2_clean_5 4 rfl rfl)
theorem dX2_clean_122 : decode cX2_clean 122 = .ok (.iload 5, 2) := dk_21 5 (dk_at dksX2_clean_5 6 rfl rfl)
theorem dX2_clean_124 : decode cX2_clean 124 = .ok (.iload_n 3, 1) := dk_29 (dk_at dksX2_clean_5 8 rfl rfl)
theorem dX2_clean_125 : decode cX2_clean 125 = .ok (.if_icmp .ge 71, 3) := dk_162 0 71 (dk_at dksX2_clean_5 9 rfl rfl)
theorem dX2_clean_128 : decode cX2_clean 128 = .ok (.aload_n 0, 1) := dk_42 (dk_at dksX2_clean_5 12 rfl rfl)
theorem dX2_clean_129 : decode cX2_clean 129 = .ok (.aload_n 0, 1) := dk_42 (dk_at dksX2_clean_5 13 rfl rfl)
theorem dX2_clean_130 : decode cX2_clean 130 = .ok (.getfield 23, 3) := dk_180 0 23 (dk_at dksX2_clean_5 14 rfl rfl)
theorem dX2_clean_133 : decode cX2_clean 133 = .ok (.iload 4, 2) := dk_21 4 (dk_at dksX2_clean_5 17 rfl rfl)
theorem dX2_clean_135 : decode cX2_clean 135 = .ok (.invokevirtual 304, 3) := dk_182 1 48 (dk_at dksX2_clean_5 19 rfl rfl)
theorem dX2_clean_138 : decode cX2_clean 138 = .ok (.ifCond .eq 58, 3) := dk_153 0 58 (dk_at dksX2_clean_6 0 rfl rfl)
theorem dX2_clean_141 : decode cX2_clean 141 = .ok (.aload_n 0, 1) := dk_42 (dk_at dksX2_clean_6 3 rfl rfl)
theorem dX2_clean_142 : decode cX2_clean 142 = .ok (.getfield 23, 3) := dk_180 0 23 (dk_at dksX2_clean_6 4 rfl rfl)
theorem dX2_clean_145 : decode cX2_clean 145 = .ok (.bipush 55, 2) := dk_16 55 (dk_at dksX2_clean_6 7 rfl rfl)
theorem dX2_clean_147 : decode cX2_clean 147 = .ok (.sipush 200, 3) := dk_17 0 200 (dk_at dksX2_clean_6 9 rfl rfl)
theorem dX2_clean_150 : decode cX2_clean 150 = .ok (.iload 4, 2) := dk_21 4 (dk_at dksX2_clean_6 12 rfl rfl)
theorem dX2_clean_152 : decode cX2_clean 152 = .ok (.imul, 1) := dk_104 (dk_at dksX2_clean_6 14 rfl rfl)
theorem dX2_clean_153 : decode cX2_clean 153 = .ok (.iadd, 1) := dk_96 (dk_at dksX2_clean_6 15 rfl rfl)
theorem dX2_clean_154 : decode cX2_clean 154 = .ok (.iload 5, 2) := dk_21 5 (dk_at dksX2_clean_6 16 rfl rfl)
theorem dX2_clean_156 : decode cX2_clean 156 = .ok (.iadd, 1) := dk_96 (dk_at dksX2_clean_6 18 rfl rfl)
theorem dX2_clean_157 : decode cX2_clean 157 = .ok (.aload_n 0, 1) := dk_42 (dk_at dksX2_clean_6 19 rfl rfl)
theorem dX2_clean_158 : decode cX2_clean 158 = .ok (.getfield 51, 3) := dk_180 0 51 (dk_at dksX2_clean_6 20 rfl rfl)
theorem dX2_clean_161 : decode cX2_clean 161 = .ok (.iload 4, 2) := dk_21 4 (dk_at dksX2_clean_7 0 rfl rfl)
theorem dX2_clean_163 : decode cX2_clean 163 = .ok (.iaload, 1) := dk_46 (dk_at dksX2_clean_7 2 rfl rfl)
theorem dX2_clean_164 : decode cX2_clean 164 = .ok (.iadd, 1) := dk_96 (dk_at dksX2_clean_7 3 rfl rfl)
theorem dX2_clean_165 : decode cX2_clean 165 = .ok (.dup2, 1) := dk_92 (dk_at dksX2_clean_7 4 rfl rfl)
theorem dX2_clean_166 : decode cX2_clean 166 = .ok (.iaload, 1) := dk_46 (dk_at dksX2_clean_7 5 rfl rfl)
theorem dX2_clean_167 : decode cX2_clean 167 = .ok (.aload_n 0, 1) := dk_42 (dk_at dksX2_clean_7 6 rfl rfl)
theorem dX2_clean_168 : decode cX2_clean 168 = .ok (.getfield 64, 3) := dk_180 0 64 (dk_at dksX2_clean_7 7 rfl rfl)
theorem dX2_clean_171 : decode cX2_clean 171 = .ok (.iload 5, 2) := dk_21 5 (dk_at dksX2_clean_7 10 rfl rfl)
theorem dX2_clean_173 : decode cX2_clean 173 = .ok (.iaload, 1) := dk_46 (dk_at dksX2_clean_7 12 rfl rfl)
theorem dX2_clean_174 : decode cX2_clean 174 = .ok (.i2l, 1) := dk_133 (dk_at dksX2_clean_7 13 rfl rfl)
theorem dX2_clean_175 : decode cX2_clean 175 = .ok (.iload_n 1, 1) := dk_27 (dk_at dksX2_clean_7 14 rfl rfl)
theorem dX2_clean_176 : decode cX2_clean 176 = .ok (.i2l, 1) := dk_133 (dk_at dksX2_clean_7 15 rfl rfl)
theorem dX2_clean_177 : decode cX2_clean 177 = .ok (.lmul, 1) := dk_105 (dk_at dksX2_clean_7 16 rfl rfl)
theorem dX2_clean_178 : decode cX2_clean 178 = .ok (.bipush 100, 2) := dk_16 100 (dk_at dksX2_clean_7 17 rfl rfl)
theorem dX2_clean_180 : decode cX2_clean 180 = .ok (.aload_n 0, 1) := dk_42 (dk_at dksX2_clean_7 19 rfl rfl)
theorem dX2_clean_181 : decode cX2_clean 181 = .ok (.invokevirtual 457, 3) := dk_182 1 201 (dk_at dksX2_clean_7 20 rfl rfl)
theorem dX2_clean_184 : decode cX2_clean 184 = .ok (.imul, 1) := dk_104 (dk_at dksX2_clean_7 23 rfl rfl)
theorem dX2_clean_185 : decode cX2_clean 185 = .ok (.i2l, 1) := dk_133 (dk_at dksX2_clean_8 0 rfl rfl)
theorem dX2_clean_186 : decode cX2_clean 186 = .ok (.ldiv, 1) := dk_109 (dk_at dksX2_clean_8 1 rfl rfl)
theorem dX2_clean_187 : decode cX2_clean 187 = .ok (.l2i, 1) := dk_136 (dk_at dksX2_clean_8 2 rfl rfl)
theorem dX2_clean_188 : decode cX2_clean 188 = .ok (.isub, 1) := dk_100 (dk_at dksX2_clean_8 3 rfl rfl)
theorem dX2_clean_189 : decode cX2_clean 189 = .ok (.iastore, 1) := dk_79 (dk_at dksX2_clean_8 4 rfl rfl)
theorem dX2_clean_190 : decode cX2_clean 190 = .ok (.iinc 5 1, 3) := dk_132 5 1 (dk_at dksX2_clean_8 5 rfl rfl)
theorem dX2_clean_193 : decode cX2_clean 193 = .ok (.goto (-71), 3) := dk_167 255 185 (dk_at dksX2_clean_8 8 rfl rfl)
theorem dX2_clean_196 : decode cX2_clean 196 = .ok (.iinc 4 1, 3) := dk_132 4 1 (dk_at dksX2_clean_8 11 rfl rfl)
theorem dX2_clean_199 : decode cX2_clean 199 = .ok (.goto (-91), 3) := dk_167 255 165 (dk_at dksX2_clean_8 14 rfl rfl)
theorem dX2_clean_202 : decode cX2_clean 202 = .ok (.aload_n 0, 1) := dk_42 (dk_at dksX2_clean_8 17 rfl rfl)
theorem dX2_clean_203 : decode cX2_clean 203 = .ok (.getfield 23, 3) := dk_180 0 23 (dk_at dksX2_clean_8 18 rfl rfl)
theorem dX2_clean_206 : decode cX2_clean 206 = .ok (.iconst 0, 1) := dk_3 (dk_at dksX2_clean_8 21 rfl rfl)
theorem dX2_clean_207 : decode cX2_clean 207 = .ok (.dup2, 1) := dk_92 (dk_at dksX2_clean_8 22 rfl rfl)
theorem dX2_clean_208 : decode cX2_clean 208 = .ok (.iaload, 1) := dk_46 (dk_at dksX2_clean_8 23 rfl rfl)
theorem dX2_clean_209 : decode cX2_clean 209 = .ok (.iconst 1, 1) := dk_4 (dk_at dksX2_clean_9 0 rfl rfl)
theorem dX2_clean_210 : decode cX2_clean 210 = .ok (.iadd, 1) := dk_96 (dk_at dksX2_clean_9 1 rfl rfl)
theorem dX2_clean_211 : decode cX2_clean 211 = .ok (.iastore, 1) := dk_79 (dk_at dksX2_clean_9 2 rfl rfl)
theorem dX2_clean_212 : decode cX2_clean 212 = .ok (.iload_n 2, 1) := dk_28 (dk_at dksX2_clean_9 3 rfl rfl)
theorem dX2_clean_213 : decode cX2_clean 213 = .ok (.ireturn, 1) := dk_172 (dk_at dksX2_clean_9 4 rfl rfl)
abbrev cX2_weightOf : ByteArray := prog_15_method_146_code
def yX2_weightOf : MethodName := ⟨RX2, "weightOf", "()I"⟩
def dkwX2_weightOf_2 : List UInt8 := [27, 172]
abbrev dktX2_weightOf_2 : List UInt8 := dkwX2_weightOf_2 ++ []
def dkwX2_weightOf_1 : List UInt8 := [153, 0, 15, 42, 180, 0, 23, 16, 13, 28, 96, 46, 167, 0, 4, 3, 96, 60, 132, 2, 1, 167, 255, 215]
abbrev dktX2_weightOf_1 : List UInt8 := dkwX2_weightOf_1 ++ dktX2_weightOf_2
def dkwX2_weightOf_0 : List UInt8 := [3, 60, 3, 61, 28, 42, 180, 0, 17, 7, 46, 162, 0, 37, 27, 42, 42, 180, 0, 23, 28, 182, 1, 48]
abbrev dktX2_weightOf_0 : List UInt8 := dkwX2_weightOf_0 ++ dktX2_weightOf_1
theorem dksX2_weightOf_0 : cX2_weightOf.data.toList.drop 0 = dktX2_weightOf_0 := by decide +kernel
theorem dksX2_weightOf_1 : cX2_weightOf.data.toList.drop 24 = dktX2_weightOf_1 := dk_seg dksX2_weightOf_0 24 rfl rfl
theorem dksX2_weightOf_2 : cX2_weightOf.data.toList.drop 48 = dktX2_weightOf_2 := dk_seg dksX2_weightOf_1 24 rfl rfl
theorem dX2_weightOf_0 : decode cX2_weightOf 0 = .ok (.iconst 0, 1) := dk_3 (dk_at dksX2_weightOf_0 0 rfl rfl)
theorem dX2_weightOf_1 : decode cX2_weightOf 1 = .ok (.istore_n 1, 1) := dk_60 (dk_at dksX2_weightOf_0 1 rfl rfl)
theorem dX2_weightOf_2 : decode cX2_weightOf 2 = .ok (.iconst 0, 1) := dk_3 (dk_at dksX2_weightOf_0 2 rfl rfl)
theorem dX2_weightOf_3 : decode cX2_weightOf 3 = .ok (.istore_n 2, 1) := dk_61 (dk_at dksX2_weightOf_0 3 rfl rfl)
theorem dX2_weightOf_4 : decode cX2_weightOf 4 = .ok (.iload_n 2, 1) := dk_28 (dk_at dksX2_weightOf_0 4 rfl rfl)
theorem dX2_weightOf_5 : decode cX2_weightOf 5 = .ok (.aload_n 0, 1) := dk_42 (dk_at dksX2_weightOf_0 5 rfl rfl)
theorem dX2_weightOf_6 : decode cX2_weightOf 6 = .ok (.getfield 17, 3) := dk_180 0 17 (dk_at dksX2_weightOf_0 6 rfl rfl)
theorem dX2_weightOf_9 : decode cX2_weightOf 9 = .ok (.iconst 4, 1) := dk_7 (dk_at dksX2_weightOf_0 9 rfl rfl)
theorem dX2_weightOf_10 : decode cX2_weightOf 10 = .ok (.iaload, 1) := dk_46 (dk_at dksX2_weightOf_0 10 rfl rfl)
theorem dX2_weightOf_11 : decode cX2_weightOf 11 = .ok (.if_icmp .ge 37, 3) := dk_162 0 37 (dk_at dksX2_weightOf_0 11 rfl rfl)
theorem dX2_weightOf_14 : decode cX2_weightOf 14 = .ok (.iload_n 1, 1) := dk_27 (dk_at dksX2_weightOf_0 14 rfl rfl)
theorem dX2_weightOf_15 : decode cX2_weightOf 15 = .ok (.aload_n 0, 1) := dk_42 (dk_at dksX2_weightOf_0 15 rfl rfl)
theorem dX2_weightOf_16 : decode cX2_weightOf 16 = .ok (.aload_n 0, 1) := dk_42 (dk_at dksX2_weightOf_0 16 rfl rfl)
theorem dX2_weightOf_17 : decode cX2_weightOf 17 = .ok (.getfield 23, 3) := dk_180 0 23 (dk_at dksX2_weightOf_0 17 rfl rfl)
theorem dX2_weightOf_20 : decode cX2_weightOf 20 = .ok (.iload_n 2, 1) := dk_28 (dk_at dksX2_weightOf_0 20 rfl rfl)
theorem dX2_weightOf_21 : decode cX2_weightOf 21 = .ok (.invokevirtual 304, 3) := dk_182 1 48 (dk_at dksX2_weightOf_0 21 rfl rfl)
theorem dX2_weightOf_24 : decode cX2_weightOf 24 = .ok (.ifCond .eq 15, 3) := dk_153 0 15 (dk_at dksX2_weightOf_1 0 rfl rfl)
theorem dX2_weightOf_27 : decode cX2_weightOf 27 = .ok (.aload_n 0, 1) := dk_42 (dk_at dksX2_weightOf_1 3 rfl rfl)
theorem dX2_weightOf_28 : decode cX2_weightOf 28 = .ok (.getfield 23, 3) := dk_180 0 23 (dk_at dksX2_weightOf_1 4 rfl rfl)
theorem dX2_weightOf_31 : decode cX2_weightOf 31 = .ok (.bipush 13, 2) := dk_16 13 (dk_at dksX2_weightOf_1 7 rfl rfl)
theorem dX2_weightOf_33 : decode cX2_weightOf 33 = .ok (.iload_n 2, 1) := dk_28 (dk_at dksX2_weightOf_1 9 rfl rfl)
theorem dX2_weightOf_34 : decode cX2_weightOf 34 = .ok (.iadd, 1) := dk_96 (dk_at dksX2_weightOf_1 10 rfl rfl)
theorem dX2_weightOf_35 : decode cX2_weightOf 35 = .ok (.iaload, 1) := dk_46 (dk_at dksX2_weightOf_1 11 rfl rfl)
theorem dX2_weightOf_36 : decode cX2_weightOf 36 = .ok (.goto 4, 3) := dk_167 0 4 (dk_at dksX2_weightOf_1 12 rfl rfl)
theorem dX2_weightOf_39 : decode cX2_weightOf 39 = .ok (.iconst 0, 1) := dk_3 (dk_at dksX2_weightOf_1 15 rfl rfl)
theorem dX2_weightOf_40 : decode cX2_weightOf 40 = .ok (.iadd, 1) := dk_96 (dk_at dksX2_weightOf_1 16 rfl rfl)
theorem dX2_weightOf_41 : decode cX2_weightOf 41 = .ok (.istore_n 1, 1) := dk_60 (dk_at dksX2_weightOf_1 17 rfl rfl)
theorem dX2_weightOf_42 : decode cX2_weightOf 42 = .ok (.iinc 2 1, 3) := dk_132 2 1 (dk_at dksX2_weightOf_1 18 rfl rfl)
theorem dX2_weightOf_45 : decode cX2_weightOf 45 = .ok (.goto (-41), 3) := dk_167 255 215 (dk_at dksX2_weightOf_1 21 rfl rfl)
theorem dX2_weightOf_48 : decode cX2_weightOf 48 = .ok (.iload_n 1, 1) := dk_27 (dk_at dksX2_weightOf_2 0 rfl rfl)
theorem dX2_weightOf_49 : decode cX2_weightOf 49 = .ok (.ireturn, 1) := dk_172 (dk_at dksX2_weightOf_2 1 rfl rfl)
abbrev cX2_cleaned : ByteArray := prog_15_method_148_code
def yX2_cleaned : MethodName := ⟨RX2, "cleaned", "()I"⟩
def dkwX2_cleaned_0 : List UInt8 := [42, 4, 182, 1, 84, 153, 0, 12, 42, 180, 0, 23, 3, 46, 167, 0, 4, 3, 172]
abbrev dktX2_cleaned_0 : List UInt8 := dkwX2_cleaned_0 ++ []
theorem dksX2_cleaned_0 : cX2_cleaned.data.toList.drop 0 = dktX2_cleaned_0 := by decide +kernel
theorem dX2_cleaned_0 : decode cX2_cleaned 0 = .ok (.aload_n 0, 1) := dk_42 (dk_at dksX2_cleaned_0 0 rfl rfl)
theorem dX2_cleaned_1 : decode cX2_cleaned 1 = .ok (.iconst 1, 1) := dk_4 (dk_at dksX2_cleaned_0 1 rfl rfl)
theorem dX2_cleaned_2 : decode cX2_cleaned 2 = .ok (.invokevirtual 340, 3) := dk_182 1 84 (dk_at dksX2_cleaned_0 2 rfl rfl)
theorem dX2_cleaned_5 : decode cX2_cleaned 5 = .ok (.ifCond .eq 12, 3) := dk_153 0 12 (dk_at dksX2_cleaned_0 5 rfl rfl)
theorem dX2_cleaned_8 : decode cX2_cleaned 8 = .ok (.aload_n 0, 1) := dk_42 (dk_at dksX2_cleaned_0 8 rfl rfl)
theorem dX2_cleaned_9 : decode cX2_cleaned 9 = .ok (.getfield 23, 3) := dk_180 0 23 (dk_at dksX2_cleaned_0 9 rfl rfl)
theorem dX2_cleaned_12 : decode cX2_cleaned 12 = .ok (.iconst 0, 1) := dk_3 (dk_at dksX2_cleaned_0 12 rfl rfl)
theorem dX2_cleaned_13 : decode cX2_cleaned 13 = .ok (.iaload, 1) := dk_46 (dk_at dksX2_cleaned_0 13 rfl rfl)
theorem dX2_cleaned_14 : decode cX2_cleaned 14 = .ok (.goto 4, 3) := dk_167 0 4 (dk_at dksX2_cleaned_0 14 rfl rfl)
theorem dX2_cleaned_17 : decode cX2_cleaned 17 = .ok (.iconst 0, 1) := dk_3 (dk_at dksX2_cleaned_0 17 rfl rfl)
theorem dX2_cleaned_18 : decode cX2_cleaned 18 = .ok (.ireturn, 1) := dk_172 (dk_at dksX2_cleaned_0 18 rfl rfl)
abbrev cX2_undo : ByteArray := prog_15_method_149_code
def yX2_undo : MethodName := ⟨RX2, "undo", "()I"⟩
def dkwX2_undo_2 : List UInt8 := [180, 0, 23, 3, 184, 0, 233, 42, 180, 0, 255, 172]
abbrev dktX2_undo_2 : List UInt8 := dkwX2_undo_2 ++ []
def dkwX2_undo_1 : List UInt8 := [172, 42, 89, 180, 0, 255, 4, 100, 181, 0, 255, 42, 180, 0, 32, 17, 9, 151, 42, 180, 0, 255, 104, 42]
abbrev dktX2_undo_1 : List UInt8 := dkwX2_undo_1 ++ dktX2_undo_2
def dkwX2_undo_0 : List UInt8 := [42, 42, 180, 0, 255, 154, 0, 7, 4, 167, 0, 4, 3, 181, 0, 67, 42, 180, 0, 67, 158, 0, 5, 3]
abbrev dktX2_undo_0 : List UInt8 := dkwX2_undo_0 ++ dktX2_undo_1
theorem dksX2_undo_0 : cX2_undo.data.toList.drop 0 = dktX2_undo_0 := by decide +kernel
theorem dksX2_undo_1 : cX2_undo.data.toList.drop 24 = dktX2_undo_1 := dk_seg dksX2_undo_0 24 rfl rfl
theorem dksX2_undo_2 : cX2_undo.data.toList.drop 48 = dktX2_undo_2 := dk_seg dksX2_undo_1 24 rfl rfl
theorem dX2_undo_0 : decode cX2_undo 0 = .ok (.aload_n 0, 1) := dk_42 (dk_at dksX2_undo_0 0 rfl rfl)
theorem dX2_undo_1 : decode cX2_undo 1 = .ok (.aload_n 0, 1) := dk_42 (dk_at dksX2_undo_0 1 rfl rfl)
theorem dX2_undo_2 : decode cX2_undo 2 = .ok (.getfield 255, 3) := dk_180 0 255 (dk_at dksX2_undo_0 2 rfl rfl)
theorem dX2_undo_5 : decode cX2_undo 5 = .ok (.ifCond .ne 7, 3) := dk_154 0 7 (dk_at dksX2_undo_0 5 rfl rfl)
theorem dX2_undo_8 : decode cX2_undo 8 = .ok (.iconst 1, 1) := dk_4 (dk_at dksX2_undo_0 8 rfl rfl)
theorem dX2_undo_9 : decode cX2_undo 9 = .ok (.goto 4, 3) := dk_167 0 4 (dk_at dksX2_undo_0 9 rfl rfl)
theorem dX2_undo_12 : decode cX2_undo 12 = .ok (.iconst 0, 1) := dk_3 (dk_at dksX2_undo_0 12 rfl rfl)
theorem dX2_undo_13 : decode cX2_undo 13 = .ok (.putfield 67, 3) := dk_181 0 67 (dk_at dksX2_undo_0 13 rfl rfl)
theorem dX2_undo_16 : decode cX2_undo 16 = .ok (.aload_n 0, 1) := dk_42 (dk_at dksX2_undo_0 16 rfl rfl)
theorem dX2_undo_17 : decode cX2_undo 17 = .ok (.getfield 67, 3) := dk_180 0 67 (dk_at dksX2_undo_0 17 rfl rfl)
theorem dX2_undo_20 : decode cX2_undo 20 = .ok (.ifCond .le 5, 3) := dk_158 0 5 (dk_at dksX2_undo_0 20 rfl rfl)
theorem dX2_undo_23 : decode cX2_undo 23 = .ok (.iconst 0, 1) := dk_3 (dk_at dksX2_undo_0 23 rfl rfl)
theorem dX2_undo_24 : decode cX2_undo 24 = .ok (.ireturn, 1) := dk_172 (dk_at dksX2_undo_1 0 rfl rfl)
theorem dX2_undo_25 : decode cX2_undo 25 = .ok (.aload_n 0, 1) := dk_42 (dk_at dksX2_undo_1 1 rfl rfl)
theorem dX2_undo_26 : decode cX2_undo 26 = .ok (.dup, 1) := dk_89 (dk_at dksX2_undo_1 2 rfl rfl)
theorem dX2_undo_27 : decode cX2_undo 27 = .ok (.getfield 255, 3) := dk_180 0 255 (dk_at dksX2_undo_1 3 rfl rfl)
theorem dX2_undo_30 : decode cX2_undo 30 = .ok (.iconst 1, 1) := dk_4 (dk_at dksX2_undo_1 6 rfl rfl)
theorem dX2_undo_31 : decode cX2_undo 31 = .ok (.isub, 1) := dk_100 (dk_at dksX2_undo_1 7 rfl rfl)
theorem dX2_undo_32 : decode cX2_undo 32 = .ok (.putfield 255, 3) := dk_181 0 255 (dk_at dksX2_undo_1 8 rfl rfl)
theorem dX2_undo_35 : decode cX2_undo 35 = .ok (.aload_n 0, 1) := dk_42 (dk_at dksX2_undo_1 11 rfl rfl)
theorem dX2_undo_36 : decode cX2_undo 36 = .ok (.getfield 32, 3) := dk_180 0 32 (dk_at dksX2_undo_1 12 rfl rfl)
theorem dX2_undo_39 : decode cX2_undo 39 = .ok (.sipush 2455, 3) := dk_17 9 151 (dk_at dksX2_undo_1 15 rfl rfl)
theorem dX2_undo_42 : decode cX2_undo 42 = .ok (.aload_n 0, 1) := dk_42 (dk_at dksX2_undo_1 18 rfl rfl)
theorem dX2_undo_43 : decode cX2_undo 43 = .ok (.getfield 255, 3) := dk_180 0 255 (dk_at dksX2_undo_1 19 rfl rfl)
theorem dX2_undo_46 : decode cX2_undo 46 = .ok (.imul, 1) := dk_104 (dk_at dksX2_undo_1 22 rfl rfl)
theorem dX2_undo_47 : decode cX2_undo 47 = .ok (.aload_n 0, 1) := dk_42 (dk_at dksX2_undo_1 23 rfl rfl)
theorem dX2_undo_48 : decode cX2_undo 48 = .ok (.getfield 23, 3) := dk_180 0 23 (dk_at dksX2_undo_2 0 rfl rfl)
theorem dX2_undo_51 : decode cX2_undo 51 = .ok (.iconst 0, 1) := dk_3 (dk_at dksX2_undo_2 3 rfl rfl)
theorem dX2_undo_52 : decode cX2_undo 52 = .ok (.invokestatic 233, 3) := dk_184 0 233 (dk_at dksX2_undo_2 4 rfl rfl)
theorem dX2_undo_55 : decode cX2_undo 55 = .ok (.aload_n 0, 1) := dk_42 (dk_at dksX2_undo_2 7 rfl rfl)
theorem dX2_undo_56 : decode cX2_undo 56 = .ok (.getfield 255, 3) := dk_180 0 255 (dk_at dksX2_undo_2 8 rfl rfl)
theorem dX2_undo_59 : decode cX2_undo 59 = .ok (.ireturn, 1) := dk_172 (dk_at dksX2_undo_2 11 rfl rfl)
abbrev cX2_undoable : ByteArray := prog_15_method_150_code
def yX2_undoable : MethodName := ⟨RX2, "undoable", "()I"⟩
def dkwX2_undoable_0 : List UInt8 := [42, 3, 181, 0, 67, 42, 180, 0, 255, 172]
abbrev dktX2_undoable_0 : List UInt8 := dkwX2_undoable_0 ++ []
theorem dksX2_undoable_0 : cX2_undoable.data.toList.drop 0 = dktX2_undoable_0 := by decide +kernel
theorem dX2_undoable_0 : decode cX2_undoable 0 = .ok (.aload_n 0, 1) := dk_42 (dk_at dksX2_undoable_0 0 rfl rfl)
theorem dX2_undoable_1 : decode cX2_undoable 1 = .ok (.iconst 0, 1) := dk_3 (dk_at dksX2_undoable_0 1 rfl rfl)
theorem dX2_undoable_2 : decode cX2_undoable 2 = .ok (.putfield 67, 3) := dk_181 0 67 (dk_at dksX2_undoable_0 2 rfl rfl)
theorem dX2_undoable_5 : decode cX2_undoable 5 = .ok (.aload_n 0, 1) := dk_42 (dk_at dksX2_undoable_0 5 rfl rfl)
theorem dX2_undoable_6 : decode cX2_undoable 6 = .ok (.getfield 255, 3) := dk_180 0 255 (dk_at dksX2_undoable_0 6 rfl rfl)
theorem dX2_undoable_9 : decode cX2_undoable 9 = .ok (.ireturn, 1) := dk_172 (dk_at dksX2_undoable_0 9 rfl rfl)
abbrev cX2_save : ByteArray := prog_15_method_151_code
def yX2_save : MethodName := ⟨RX2, "save", "(I)I"⟩
def dkwX2_save_1 : List UInt8 := [17, 9, 151, 27, 104, 184, 0, 233, 42, 180, 0, 41, 27, 4, 84, 42, 42, 180, 0, 23, 182, 1, 111, 172]
abbrev dktX2_save_1 : List UInt8 := dkwX2_save_1 ++ []
def dkwX2_save_0 : List UInt8 := [42, 27, 3, 4, 184, 0, 96, 182, 1, 84, 154, 0, 5, 3, 172, 42, 180, 0, 23, 3, 42, 180, 0, 35]
abbrev dktX2_save_0 : List UInt8 := dkwX2_save_0 ++ dktX2_save_1
theorem dksX2_save_0 : cX2_save.data.toList.drop 0 = dktX2_save_0 := by decide +kernel
theorem dksX2_save_1 : cX2_save.data.toList.drop 24 = dktX2_save_1 := dk_seg dksX2_save_0 24 rfl rfl
theorem dX2_save_0 : decode cX2_save 0 = .ok (.aload_n 0, 1) := dk_42 (dk_at dksX2_save_0 0 rfl rfl)
theorem dX2_save_1 : decode cX2_save 1 = .ok (.iload_n 1, 1) := dk_27 (dk_at dksX2_save_0 1 rfl rfl)
theorem dX2_save_2 : decode cX2_save 2 = .ok (.iconst 0, 1) := dk_3 (dk_at dksX2_save_0 2 rfl rfl)
theorem dX2_save_3 : decode cX2_save 3 = .ok (.iconst 1, 1) := dk_4 (dk_at dksX2_save_0 3 rfl rfl)
theorem dX2_save_4 : decode cX2_save 4 = .ok (.invokestatic 96, 3) := dk_184 0 96 (dk_at dksX2_save_0 4 rfl rfl)
theorem dX2_save_7 : decode cX2_save 7 = .ok (.invokevirtual 340, 3) := dk_182 1 84 (dk_at dksX2_save_0 7 rfl rfl)
theorem dX2_save_10 : decode cX2_save 10 = .ok (.ifCond .ne 5, 3) := dk_154 0 5 (dk_at dksX2_save_0 10 rfl rfl)
theorem dX2_save_13 : decode cX2_save 13 = .ok (.iconst 0, 1) := dk_3 (dk_at dksX2_save_0 13 rfl rfl)
theorem dX2_save_14 : decode cX2_save 14 = .ok (.ireturn, 1) := dk_172 (dk_at dksX2_save_0 14 rfl rfl)
theorem dX2_save_15 : decode cX2_save 15 = .ok (.aload_n 0, 1) := dk_42 (dk_at dksX2_save_0 15 rfl rfl)
theorem dX2_save_16 : decode cX2_save 16 = .ok (.getfield 23, 3) := dk_180 0 23 (dk_at dksX2_save_0 16 rfl rfl)
theorem dX2_save_19 : decode cX2_save 19 = .ok (.iconst 0, 1) := dk_3 (dk_at dksX2_save_0 19 rfl rfl)
theorem dX2_save_20 : decode cX2_save 20 = .ok (.aload_n 0, 1) := dk_42 (dk_at dksX2_save_0 20 rfl rfl)
theorem dX2_save_21 : decode cX2_save 21 = .ok (.getfield 35, 3) := dk_180 0 35 (dk_at dksX2_save_0 21 rfl rfl)
theorem dX2_save_24 : decode cX2_save 24 = .ok (.sipush 2455, 3) := dk_17 9 151 (dk_at dksX2_save_1 0 rfl rfl)
theorem dX2_save_27 : decode cX2_save 27 = .ok (.iload_n 1, 1) := dk_27 (dk_at dksX2_save_1 3 rfl rfl)
theorem dX2_save_28 : decode cX2_save 28 = .ok (.imul, 1) := dk_104 (dk_at dksX2_save_1 4 rfl rfl)
theorem dX2_save_29 : decode cX2_save 29 = .ok (.invokestatic 233, 3) := dk_184 0 233 (dk_at dksX2_save_1 5 rfl rfl)
theorem dX2_save_32 : decode cX2_save 32 = .ok (.aload_n 0, 1) := dk_42 (dk_at dksX2_save_1 8 rfl rfl)
theorem dX2_save_33 : decode cX2_save 33 = .ok (.getfield 41, 3) := dk_180 0 41 (dk_at dksX2_save_1 9 rfl rfl)
theorem dX2_save_36 : decode cX2_save 36 = .ok (.iload_n 1, 1) := dk_27 (dk_at dksX2_save_1 12 rfl rfl)
theorem dX2_save_37 : decode cX2_save 37 = .ok (.iconst 1, 1) := dk_4 (dk_at dksX2_save_1 13 rfl rfl)
theorem dX2_save_38 : decode cX2_save 38 = .ok (.bastore, 1) := dk_84 (dk_at dksX2_save_1 14 rfl rfl)
theorem dX2_save_39 : decode cX2_save 39 = .ok (.aload_n 0, 1) := dk_42 (dk_at dksX2_save_1 15 rfl rfl)
theorem dX2_save_40 : decode cX2_save 40 = .ok (.aload_n 0, 1) := dk_42 (dk_at dksX2_save_1 16 rfl rfl)
theorem dX2_save_41 : decode cX2_save 41 = .ok (.getfield 23, 3) := dk_180 0 23 (dk_at dksX2_save_1 17 rfl rfl)
theorem dX2_save_44 : decode cX2_save 44 = .ok (.invokevirtual 367, 3) := dk_182 1 111 (dk_at dksX2_save_1 20 rfl rfl)
theorem dX2_save_47 : decode cX2_save 47 = .ok (.ireturn, 1) := dk_172 (dk_at dksX2_save_1 23 rfl rfl)
abbrev cX2_restore : ByteArray := prog_15_method_152_code
def yX2_restore : MethodName := ⟨RX2, "restore", "(I)I"⟩
def dkwX2_restore_2 : List UInt8 := [104, 42, 180, 0, 23, 3, 184, 0, 233, 42, 3, 181, 0, 255, 42, 42, 180, 0, 23, 182, 1, 111, 172]
abbrev dktX2_restore_2 : List UInt8 := dkwX2_restore_2 ++ []
def dkwX2_restore_1 : List UInt8 := [167, 0, 4, 5, 181, 0, 67, 42, 180, 0, 67, 158, 0, 5, 3, 172, 42, 180, 0, 35, 17, 9, 151, 27]
abbrev dktX2_restore_1 : List UInt8 := dkwX2_restore_1 ++ dktX2_restore_2
def dkwX2_restore_0 : List UInt8 := [42, 27, 3, 4, 184, 0, 96, 154, 0, 7, 4, 167, 0, 17, 42, 180, 0, 41, 27, 51, 153, 0, 7, 3]
abbrev dktX2_restore_0 : List UInt8 := dkwX2_restore_0 ++ dktX2_restore_1
theorem dksX2_restore_0 : cX2_restore.data.toList.drop 0 = dktX2_restore_0 := by decide +kernel
theorem dksX2_restore_1 : cX2_restore.data.toList.drop 24 = dktX2_restore_1 := dk_seg dksX2_restore_0 24 rfl rfl
theorem dksX2_restore_2 : cX2_restore.data.toList.drop 48 = dktX2_restore_2 := dk_seg dksX2_restore_1 24 rfl rfl
theorem dX2_restore_0 : decode cX2_restore 0 = .ok (.aload_n 0, 1) := dk_42 (dk_at dksX2_restore_0 0 rfl rfl)
theorem dX2_restore_1 : decode cX2_restore 1 = .ok (.iload_n 1, 1) := dk_27 (dk_at dksX2_restore_0 1 rfl rfl)
theorem dX2_restore_2 : decode cX2_restore 2 = .ok (.iconst 0, 1) := dk_3 (dk_at dksX2_restore_0 2 rfl rfl)
theorem dX2_restore_3 : decode cX2_restore 3 = .ok (.iconst 1, 1) := dk_4 (dk_at dksX2_restore_0 3 rfl rfl)
theorem dX2_restore_4 : decode cX2_restore 4 = .ok (.invokestatic 96, 3) := dk_184 0 96 (dk_at dksX2_restore_0 4 rfl rfl)
theorem dX2_restore_7 : decode cX2_restore 7 = .ok (.ifCond .ne 7, 3) := dk_154 0 7 (dk_at dksX2_restore_0 7 rfl rfl)
theorem dX2_restore_10 : decode cX2_restore 10 = .ok (.iconst 1, 1) := dk_4 (dk_at dksX2_restore_0 10 rfl rfl)
theorem dX2_restore_11 : decode cX2_restore 11 = .ok (.goto 17, 3) := dk_167 0 17 (dk_at dksX2_restore_0 11 rfl rfl)
theorem dX2_restore_14 : decode cX2_restore 14 = .ok (.aload_n 0, 1) := dk_42 (dk_at dksX2_restore_0 14 rfl rfl)
theorem dX2_restore_15 : decode cX2_restore 15 = .ok (.getfield 41, 3) := dk_180 0 41 (dk_at dksX2_restore_0 15 rfl rfl)
theorem dX2_restore_18 : decode cX2_restore 18 = .ok (.iload_n 1, 1) := dk_27 (dk_at dksX2_restore_0 18 rfl rfl)
theorem dX2_restore_19 : decode cX2_restore 19 = .ok (.baload, 1) := dk_51 (dk_at dksX2_restore_0 19 rfl rfl)
theorem dX2_restore_20 : decode cX2_restore 20 = .ok (.ifCond .eq 7, 3) := dk_153 0 7 (dk_at dksX2_restore_0 20 rfl rfl)
theorem dX2_restore_23 : decode cX2_restore 23 = .ok (.iconst 0, 1) := dk_3 (dk_at dksX2_restore_0 23 rfl rfl)
theorem dX2_restore_24 : decode cX2_restore 24 = .ok (.goto 4, 3) := dk_167 0 4 (dk_at dksX2_restore_1 0 rfl rfl)
theorem dX2_restore_27 : decode cX2_restore 27 = .ok (.iconst 2, 1) := dk_5 (dk_at dksX2_restore_1 3 rfl rfl)
theorem dX2_restore_28 : decode cX2_restore 28 = .ok (.putfield 67, 3) := dk_181 0 67 (dk_at dksX2_restore_1 4 rfl rfl)
theorem dX2_restore_31 : decode cX2_restore 31 = .ok (.aload_n 0, 1) := dk_42 (dk_at dksX2_restore_1 7 rfl rfl)
theorem dX2_restore_32 : decode cX2_restore 32 = .ok (.getfield 67, 3) := dk_180 0 67 (dk_at dksX2_restore_1 8 rfl rfl)
theorem dX2_restore_35 : decode cX2_restore 35 = .ok (.ifCond .le 5, 3) := dk_158 0 5 (dk_at dksX2_restore_1 11 rfl rfl)
theorem dX2_restore_38 : decode cX2_restore 38 = .ok (.iconst 0, 1) := dk_3 (dk_at dksX2_restore_1 14 rfl rfl)
theorem dX2_restore_39 : decode cX2_restore 39 = .ok (.ireturn, 1) := dk_172 (dk_at dksX2_restore_1 15 rfl rfl)
theorem dX2_restore_40 : decode cX2_restore 40 = .ok (.aload_n 0, 1) := dk_42 (dk_at dksX2_restore_1 16 rfl rfl)
theorem dX2_restore_41 : decode cX2_restore 41 = .ok (.getfield 35, 3) := dk_180 0 35 (dk_at dksX2_restore_1 17 rfl rfl)
theorem dX2_restore_44 : decode cX2_restore 44 = .ok (.sipush 2455, 3) := dk_17 9 151 (dk_at dksX2_restore_1 20 rfl rfl)
theorem dX2_restore_47 : decode cX2_restore 47 = .ok (.iload_n 1, 1) := dk_27 (dk_at dksX2_restore_1 23 rfl rfl)
theorem dX2_restore_48 : decode cX2_restore 48 = .ok (.imul, 1) := dk_104 (dk_at dksX2_restore_2 0 rfl rfl)
theorem dX2_restore_49 : decode cX2_restore 49 = .ok (.aload_n 0, 1) := dk_42 (dk_at dksX2_restore_2 1 rfl rfl)
theorem dX2_restore_50 : decode cX2_restore 50 = .ok (.getfield 23, 3) := dk_180 0 23 (dk_at dksX2_restore_2 2 rfl rfl)
theorem dX2_restore_53 : decode cX2_restore 53 = .ok (.iconst 0, 1) := dk_3 (dk_at dksX2_restore_2 5 rfl rfl)
theorem dX2_restore_54 : decode cX2_restore 54 = .ok (.invokestatic 233, 3) := dk_184 0 233 (dk_at dksX2_restore_2 6 rfl rfl)
theorem dX2_restore_57 : decode cX2_restore 57 = .ok (.aload_n 0, 1) := dk_42 (dk_at dksX2_restore_2 9 rfl rfl)
theorem dX2_restore_58 : decode cX2_restore 58 = .ok (.iconst 0, 1) := dk_3 (dk_at dksX2_restore_2 10 rfl rfl)
theorem dX2_restore_59 : decode cX2_restore 59 = .ok (.putfield 255, 3) := dk_181 0 255 (dk_at dksX2_restore_2 11 rfl rfl)
theorem dX2_restore_62 : decode cX2_restore 62 = .ok (.aload_n 0, 1) := dk_42 (dk_at dksX2_restore_2 14 rfl rfl)
theorem dX2_restore_63 : decode cX2_restore 63 = .ok (.aload_n 0, 1) := dk_42 (dk_at dksX2_restore_2 15 rfl rfl)
theorem dX2_restore_64 : decode cX2_restore 64 = .ok (.getfield 23, 3) := dk_180 0 23 (dk_at dksX2_restore_2 16 rfl rfl)
theorem dX2_restore_67 : decode cX2_restore 67 = .ok (.invokevirtual 367, 3) := dk_182 1 111 (dk_at dksX2_restore_2 19 rfl rfl)
theorem dX2_restore_70 : decode cX2_restore 70 = .ok (.ireturn, 1) := dk_172 (dk_at dksX2_restore_2 22 rfl rfl)
