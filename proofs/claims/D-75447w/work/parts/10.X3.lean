/-! decode rows: X3.AcousticCamera_State.lean.txt -/
set_option maxRecDepth 100000
abbrev cX3_init : ByteArray := prog_9_method_1_code
def yX3_init : MethodName := ⟨RX3, "<init>", "(LAcousticCamera$Setup;)V"⟩
def dkwX3_init_8 : List UInt8 := [181, 0, 75, 177]
abbrev dktX3_init_8 : List UInt8 := dkwX3_init_8 ++ []
def dkwX3_init_7 : List UInt8 := [132, 2, 1, 167, 255, 219, 42, 43, 180, 0, 59, 185, 0, 33, 1, 0, 43, 180, 0, 69, 197, 0, 73, 2]
abbrev dktX3_init_7 : List UInt8 := dkwX3_init_7 ++ dktX3_init_8
def dkwX3_init_6 : List UInt8 := [180, 0, 62, 28, 28, 43, 180, 0, 66, 190, 162, 0, 12, 43, 180, 0, 66, 28, 46, 167, 0, 4, 4, 79]
abbrev dktX3_init_6 : List UInt8 := dkwX3_init_6 ++ dktX3_init_7
def dkwX3_init_5 : List UInt8 := [185, 0, 33, 1, 0, 188, 10, 181, 0, 62, 3, 61, 28, 42, 180, 0, 62, 190, 162, 0, 34, 42]
abbrev dktX3_init_5 : List UInt8 := dkwX3_init_5 ++ dktX3_init_6
def dkwX3_init_4 : List UInt8 := [190, 182, 0, 48, 42, 180, 0, 20, 43, 180, 0, 52, 182, 0, 55, 42, 43, 180, 0, 59]
abbrev dktX3_init_4 : List UInt8 := dkwX3_init_4 ++ dktX3_init_5
def dkwX3_init_3 : List UInt8 := [185, 0, 44, 2, 0, 192, 0, 39, 83, 132, 2, 1, 167, 255, 225, 42, 180, 0, 20, 3, 42, 180, 0, 41]
abbrev dktX3_init_3 : List UInt8 := dkwX3_init_3 ++ dktX3_init_4
def dkwX3_init_2 : List UInt8 := [181, 0, 41, 3, 61, 28, 42, 180, 0, 41, 190, 162, 0, 28, 42, 180, 0, 41, 28, 43, 180, 0, 27, 28]
abbrev dktX3_init_2 : List UInt8 := dkwX3_init_2 ++ dktX3_init_3
def dkwX3_init_1 : List UInt8 := [183, 0, 11, 181, 0, 20, 42, 43, 181, 0, 23, 42, 43, 180, 0, 27, 185, 0, 33, 1, 0, 189, 0, 39]
abbrev dktX3_init_1 : List UInt8 := dkwX3_init_1 ++ dktX3_init_2
def dkwX3_init_0 : List UInt8 := [42, 183, 0, 3, 42, 187, 0, 9, 89, 16, 12, 183, 0, 11, 181, 0, 14, 42, 187, 0, 9, 89, 16, 6]
abbrev dktX3_init_0 : List UInt8 := dkwX3_init_0 ++ dktX3_init_1
theorem dksX3_init_0 : cX3_init.data.toList.drop 0 = dktX3_init_0 := by decide +kernel
theorem dksX3_init_1 : cX3_init.data.toList.drop 24 = dktX3_init_1 := dk_seg dksX3_init_0 24 rfl rfl
theorem dksX3_init_2 : cX3_init.data.toList.drop 48 = dktX3_init_2 := dk_seg dksX3_init_1 24 rfl rfl
theorem dksX3_init_3 : cX3_init.data.toList.drop 72 = dktX3_init_3 := dk_seg dksX3_init_2 24 rfl rfl
theorem dksX3_init_4 : cX3_init.data.toList.drop 96 = dktX3_init_4 := dk_seg dksX3_init_3 24 rfl rfl
theorem dksX3_init_5 : cX3_init.data.toList.drop 116 = dktX3_init_5 := dk_seg dksX3_init_4 20 rfl rfl
theorem dksX3_init_6 : cX3_init.data.toList.drop 138 = dktX3_init_6 := dk_seg dksX3_init_5 22 rfl rfl
theorem dksX3_init_7 : cX3_init.data.toList.drop 162 = dktX3_init_7 := dk_seg dksX3_init_6 24 rfl rfl
theorem dksX3_init_8 : cX3_init.data.toList.drop 186 = dktX3_init_8 := dk_seg dksX3_init_7 24 rfl rfl
theorem dX3_init_0 : decode cX3_init 0 = .ok (.aload_n 0, 1) := dk_42 (dk_at dksX3_init_0 0 rfl rfl)
theorem dX3_init_1 : decode cX3_init 1 = .ok (.invokespecial 3, 3) := dk_183 0 3 (dk_at dksX3_init_0 1 rfl rfl)
theorem dX3_init_4 : decode cX3_init 4 = .ok (.aload_n 0, 1) := dk_42 (dk_at dksX3_init_0 4 rfl rfl)
theorem dX3_init_5 : decode cX3_init 5 = .ok (.new 9, 3) := dk_187 0 9 (dk_at dksX3_init_0 5 rfl rfl)
theorem dX3_init_8 : decode cX3_init 8 = .ok (.dup, 1) := dk_89 (dk_at dksX3_init_0 8 rfl rfl)
theorem dX3_init_9 : decode cX3_init 9 = .ok (.bipush 12, 2) := dk_16 12 (dk_at dksX3_init_0 9 rfl rfl)
theorem dX3_init_11 : decode cX3_init 11 = .ok (.invokespecial 11, 3) := dk_183 0 11 (dk_at dksX3_init_0 11 rfl rfl)
theorem dX3_init_14 : decode cX3_init 14 = .ok (.putfield 14, 3) := dk_181 0 14 (dk_at dksX3_init_0 14 rfl rfl)
theorem dX3_init_17 : decode cX3_init 17 = .ok (.aload_n 0, 1) := dk_42 (dk_at dksX3_init_0 17 rfl rfl)
theorem dX3_init_18 : decode cX3_init 18 = .ok (.new 9, 3) := dk_187 0 9 (dk_at dksX3_init_0 18 rfl rfl)
theorem dX3_init_21 : decode cX3_init 21 = .ok (.dup, 1) := dk_89 (dk_at dksX3_init_0 21 rfl rfl)
theorem dX3_init_22 : decode cX3_init 22 = .ok (.bipush 6, 2) := dk_16 6 (dk_at dksX3_init_0 22 rfl rfl)
theorem dX3_init_24 : decode cX3_init 24 = .ok (.invokespecial 11, 3) := dk_183 0 11 (dk_at dksX3_init_1 0 rfl rfl)
theorem dX3_init_27 : decode cX3_init 27 = .ok (.putfield 20, 3) := dk_181 0 20 (dk_at dksX3_init_1 3 rfl rfl)
theorem dX3_init_30 : decode cX3_init 30 = .ok (.aload_n 0, 1) := dk_42 (dk_at dksX3_init_1 6 rfl rfl)
theorem dX3_init_31 : decode cX3_init 31 = .ok (.aload_n 1, 1) := dk_43 (dk_at dksX3_init_1 7 rfl rfl)
theorem dX3_init_32 : decode cX3_init 32 = .ok (.putfield 23, 3) := dk_181 0 23 (dk_at dksX3_init_1 8 rfl rfl)
theorem dX3_init_35 : decode cX3_init 35 = .ok (.aload_n 0, 1) := dk_42 (dk_at dksX3_init_1 11 rfl rfl)
theorem dX3_init_36 : decode cX3_init 36 = .ok (.aload_n 1, 1) := dk_43 (dk_at dksX3_init_1 12 rfl rfl)
theorem dX3_init_37 : decode cX3_init 37 = .ok (.getfield 27, 3) := dk_180 0 27 (dk_at dksX3_init_1 13 rfl rfl)
theorem dX3_init_40 : decode cX3_init 40 = .ok (.invokeinterface 33 1, 5) := by decide +kernel
theorem dX3_init_45 : decode cX3_init 45 = .ok (.anewarray 39, 3) := dk_189 0 39 (dk_at dksX3_init_1 21 rfl rfl)
theorem dX3_init_48 : decode cX3_init 48 = .ok (.putfield 41, 3) := dk_181 0 41 (dk_at dksX3_init_2 0 rfl rfl)
theorem dX3_init_51 : decode cX3_init 51 = .ok (.iconst 0, 1) := dk_3 (dk_at dksX3_init_2 3 rfl rfl)
theorem dX3_init_52 : decode cX3_init 52 = .ok (.istore_n 2, 1) := dk_61 (dk_at dksX3_init_2 4 rfl rfl)
theorem dX3_init_53 : decode cX3_init 53 = .ok (.iload_n 2, 1) := dk_28 (dk_at dksX3_init_2 5 rfl rfl)
theorem dX3_init_54 : decode cX3_init 54 = .ok (.aload_n 0, 1) := dk_42 (dk_at dksX3_init_2 6 rfl rfl)
theorem dX3_init_55 : decode cX3_init 55 = .ok (.getfield 41, 3) := dk_180 0 41 (dk_at dksX3_init_2 7 rfl rfl)
theorem dX3_init_58 : decode cX3_init 58 = .ok (.arraylength, 1) := dk_190 (dk_at dksX3_init_2 10 rfl rfl)
theorem dX3_init_59 : decode cX3_init 59 = .ok (.if_icmp .ge 28, 3) := dk_162 0 28 (dk_at dksX3_init_2 11 rfl rfl)
theorem dX3_init_62 : decode cX3_init 62 = .ok (.aload_n 0, 1) := dk_42 (dk_at dksX3_init_2 14 rfl rfl)
theorem dX3_init_63 : decode cX3_init 63 = .ok (.getfield 41, 3) := dk_180 0 41 (dk_at dksX3_init_2 15 rfl rfl)
theorem dX3_init_66 : decode cX3_init 66 = .ok (.iload_n 2, 1) := dk_28 (dk_at dksX3_init_2 18 rfl rfl)
theorem dX3_init_67 : decode cX3_init 67 = .ok (.aload_n 1, 1) := dk_43 (dk_at dksX3_init_2 19 rfl rfl)
theorem dX3_init_68 : decode cX3_init 68 = .ok (.getfield 27, 3) := dk_180 0 27 (dk_at dksX3_init_2 20 rfl rfl)
theorem dX3_init_71 : decode cX3_init 71 = .ok (.iload_n 2, 1) := dk_28 (dk_at dksX3_init_2 23 rfl rfl)
theorem dX3_init_72 : decode cX3_init 72 = .ok (.invokeinterface 44 2, 5) := by decide +kernel
theorem dX3_init_77 : decode cX3_init 77 = .ok (.checkcast 39, 3) := dk_192 0 39 (dk_at dksX3_init_3 5 rfl rfl)
theorem dX3_init_80 : decode cX3_init 80 = .ok (.aastore, 1) := dk_83 (dk_at dksX3_init_3 8 rfl rfl)
theorem dX3_init_81 : decode cX3_init 81 = .ok (.iinc 2 1, 3) := dk_132 2 1 (dk_at dksX3_init_3 9 rfl rfl)
theorem dX3_init_84 : decode cX3_init 84 = .ok (.goto (-31), 3) := dk_167 255 225 (dk_at dksX3_init_3 12 rfl rfl)
theorem dX3_init_87 : decode cX3_init 87 = .ok (.aload_n 0, 1) := dk_42 (dk_at dksX3_init_3 15 rfl rfl)
theorem dX3_init_88 : decode cX3_init 88 = .ok (.getfield 20, 3) := dk_180 0 20 (dk_at dksX3_init_3 16 rfl rfl)
theorem dX3_init_91 : decode cX3_init 91 = .ok (.iconst 0, 1) := dk_3 (dk_at dksX3_init_3 19 rfl rfl)
theorem dX3_init_92 : decode cX3_init 92 = .ok (.aload_n 0, 1) := dk_42 (dk_at dksX3_init_3 20 rfl rfl)
theorem dX3_init_93 : decode cX3_init 93 = .ok (.getfield 41, 3) := dk_180 0 41 (dk_at dksX3_init_3 21 rfl rfl)
theorem dX3_init_96 : decode cX3_init 96 = .ok (.arraylength, 1) := dk_190 (dk_at dksX3_init_4 0 rfl rfl)
theorem dX3_init_97 : decode cX3_init 97 = .ok (.invokevirtual 48, 3) := dk_182 0 48 (dk_at dksX3_init_4 1 rfl rfl)
theorem dX3_init_100 : decode cX3_init 100 = .ok (.aload_n 0, 1) := dk_42 (dk_at dksX3_init_4 4 rfl rfl)
theorem dX3_init_101 : decode cX3_init 101 = .ok (.getfield 20, 3) := dk_180 0 20 (dk_at dksX3_init_4 5 rfl rfl)
theorem dX3_init_104 : decode cX3_init 104 = .ok (.aload_n 1, 1) := dk_43 (dk_at dksX3_init_4 8 rfl rfl)
theorem dX3_init_105 : decode cX3_init 105 = .ok (.getfield 52, 3) := dk_180 0 52 (dk_at dksX3_init_4 9 rfl rfl)
theorem dX3_init_108 : decode cX3_init 108 = .ok (.invokevirtual 55, 3) := dk_182 0 55 (dk_at dksX3_init_4 12 rfl rfl)
theorem dX3_init_111 : decode cX3_init 111 = .ok (.aload_n 0, 1) := dk_42 (dk_at dksX3_init_4 15 rfl rfl)
theorem dX3_init_112 : decode cX3_init 112 = .ok (.aload_n 1, 1) := dk_43 (dk_at dksX3_init_4 16 rfl rfl)
theorem dX3_init_113 : decode cX3_init 113 = .ok (.getfield 59, 3) := dk_180 0 59 (dk_at dksX3_init_4 17 rfl rfl)
theorem dX3_init_116 : decode cX3_init 116 = .ok (.invokeinterface 33 1, 5) := by decide +kernel
theorem dX3_init_121 : decode cX3_init 121 = .ok (.newarray .int, 2) := dk_188_10 (dk_at dksX3_init_5 5 rfl rfl)
theorem dX3_init_123 : decode cX3_init 123 = .ok (.putfield 62, 3) := dk_181 0 62 (dk_at dksX3_init_5 7 rfl rfl)
theorem dX3_init_126 : decode cX3_init 126 = .ok (.iconst 0, 1) := dk_3 (dk_at dksX3_init_5 10 rfl rfl)
theorem dX3_init_127 : decode cX3_init 127 = .ok (.istore_n 2, 1) := dk_61 (dk_at dksX3_init_5 11 rfl rfl)
theorem dX3_init_128 : decode cX3_init 128 = .ok (.iload_n 2, 1) := dk_28 (dk_at dksX3_init_5 12 rfl rfl)
theorem dX3_init_129 : decode cX3_init 129 = .ok (.aload_n 0, 1) := dk_42 (dk_at dksX3_init_5 13 rfl rfl)
theorem dX3_init_130 : decode cX3_init 130 = .ok (.getfield 62, 3) := dk_180 0 62 (dk_at dksX3_init_5 14 rfl rfl)
theorem dX3_init_133 : decode cX3_init 133 = .ok (.arraylength, 1) := dk_190 (dk_at dksX3_init_5 17 rfl rfl)
theorem dX3_init_134 : decode cX3_init 134 = .ok (.if_icmp .ge 34, 3) := dk_162 0 34 (dk_at dksX3_init_5 18 rfl rfl)
theorem dX3_init_137 : decode cX3_init 137 = .ok (.aload_n 0, 1) := dk_42 (dk_at dksX3_init_5 21 rfl rfl)
theorem dX3_init_138 : decode cX3_init 138 = .ok (.getfield 62, 3) := dk_180 0 62 (dk_at dksX3_init_6 0 rfl rfl)
theorem dX3_init_141 : decode cX3_init 141 = .ok (.iload_n 2, 1) := dk_28 (dk_at dksX3_init_6 3 rfl rfl)
theorem dX3_init_142 : decode cX3_init 142 = .ok (.iload_n 2, 1) := dk_28 (dk_at dksX3_init_6 4 rfl rfl)
theorem dX3_init_143 : decode cX3_init 143 = .ok (.aload_n 1, 1) := dk_43 (dk_at dksX3_init_6 5 rfl rfl)
theorem dX3_init_144 : decode cX3_init 144 = .ok (.getfield 66, 3) := dk_180 0 66 (dk_at dksX3_init_6 6 rfl rfl)
theorem dX3_init_147 : decode cX3_init 147 = .ok (.arraylength, 1) := dk_190 (dk_at dksX3_init_6 9 rfl rfl)
theorem dX3_init_148 : decode cX3_init 148 = .ok (.if_icmp .ge 12, 3) := dk_162 0 12 (dk_at dksX3_init_6 10 rfl rfl)
theorem dX3_init_151 : decode cX3_init 151 = .ok (.aload_n 1, 1) := dk_43 (dk_at dksX3_init_6 13 rfl rfl)
theorem dX3_init_152 : decode cX3_init 152 = .ok (.getfield 66, 3) := dk_180 0 66 (dk_at dksX3_init_6 14 rfl rfl)
theorem dX3_init_155 : decode cX3_init 155 = .ok (.iload_n 2, 1) := dk_28 (dk_at dksX3_init_6 17 rfl rfl)
theorem dX3_init_156 : decode cX3_init 156 = .ok (.iaload, 1) := dk_46 (dk_at dksX3_init_6 18 rfl rfl)
theorem dX3_init_157 : decode cX3_init 157 = .ok (.goto 4, 3) := dk_167 0 4 (dk_at dksX3_init_6 19 rfl rfl)
theorem dX3_init_160 : decode cX3_init 160 = .ok (.iconst 1, 1) := dk_4 (dk_at dksX3_init_6 22 rfl rfl)
theorem dX3_init_161 : decode cX3_init 161 = .ok (.iastore, 1) := dk_79 (dk_at dksX3_init_6 23 rfl rfl)
theorem dX3_init_162 : decode cX3_init 162 = .ok (.iinc 2 1, 3) := dk_132 2 1 (dk_at dksX3_init_7 0 rfl rfl)
theorem dX3_init_165 : decode cX3_init 165 = .ok (.goto (-37), 3) := dk_167 255 219 (dk_at dksX3_init_7 3 rfl rfl)
theorem dX3_init_168 : decode cX3_init 168 = .ok (.aload_n 0, 1) := dk_42 (dk_at dksX3_init_7 6 rfl rfl)
theorem dX3_init_169 : decode cX3_init 169 = .ok (.aload_n 1, 1) := dk_43 (dk_at dksX3_init_7 7 rfl rfl)
theorem dX3_init_170 : decode cX3_init 170 = .ok (.getfield 59, 3) := dk_180 0 59 (dk_at dksX3_init_7 8 rfl rfl)
theorem dX3_init_173 : decode cX3_init 173 = .ok (.invokeinterface 33 1, 5) := by decide +kernel
theorem dX3_init_178 : decode cX3_init 178 = .ok (.aload_n 1, 1) := dk_43 (dk_at dksX3_init_7 16 rfl rfl)
theorem dX3_init_179 : decode cX3_init 179 = .ok (.getfield 69, 3) := dk_180 0 69 (dk_at dksX3_init_7 17 rfl rfl)
theorem dX3_init_182 : decode cX3_init 182 = .ok (.multianewarray 73 2, 4) := by decide +kernel
theorem dX3_init_186 : decode cX3_init 186 = .ok (.putfield 75, 3) := dk_181 0 75 (dk_at dksX3_init_8 0 rfl rfl)
theorem dX3_init_189 : decode cX3_init 189 = .ok (.return_, 1) := dk_177 (dk_at dksX3_init_8 3 rfl rfl)
abbrev cX3_record : ByteArray := prog_9_method_3_code
def yX3_record : MethodName := ⟨RX3, "record", "()V"⟩
def dkwX3_record_5 : List UInt8 := [182, 0, 113, 132, 1, 1, 167, 255, 239, 42, 3, 181, 0, 98, 42, 1, 181, 0, 101, 177]
abbrev dktX3_record_5 : List UInt8 := dkwX3_record_5 ++ []
def dkwX3_record_4 : List UInt8 := [27, 4, 96, 182, 0, 105, 60, 167, 255, 213, 3, 60, 27, 42, 180, 0, 75, 190, 162, 0, 14, 42, 27]
abbrev dktX3_record_4 : List UInt8 := dkwX3_record_4 ++ dktX3_record_5
def dkwX3_record_3 : List UInt8 := [162, 0, 20, 42, 42, 180, 0, 41, 27, 50, 28, 182, 0, 109, 132, 2, 1, 167, 255, 233, 42, 180, 0, 20]
abbrev dktX3_record_3 : List UInt8 := dkwX3_record_3 ++ dktX3_record_4
def dkwX3_record_2 : List UInt8 := [167, 255, 220, 42, 180, 0, 20, 3, 182, 0, 105, 60, 27, 155, 0, 45, 3, 61, 28, 42, 180, 0, 75, 190]
abbrev dktX3_record_2 : List UInt8 := dkwX3_record_2 ++ dktX3_record_3
def dkwX3_record_1 : List UInt8 := [21, 5, 25, 4, 190, 162, 0, 15, 25, 4, 21, 5, 3, 79, 132, 5, 1, 167, 255, 239, 132, 3, 1]
abbrev dktX3_record_1 : List UInt8 := dkwX3_record_1 ++ dktX3_record_2
def dkwX3_record_0 : List UInt8 := [42, 180, 0, 75, 76, 43, 190, 61, 3, 62, 29, 28, 162, 0, 37, 43, 29, 50, 58, 4, 3, 54, 5]
abbrev dktX3_record_0 : List UInt8 := dkwX3_record_0 ++ dktX3_record_1
theorem dksX3_record_0 : cX3_record.data.toList.drop 0 = dktX3_record_0 := by decide +kernel
theorem dksX3_record_1 : cX3_record.data.toList.drop 23 = dktX3_record_1 := dk_seg dksX3_record_0 23 rfl rfl
theorem dksX3_record_2 : cX3_record.data.toList.drop 46 = dktX3_record_2 := dk_seg dksX3_record_1 23 rfl rfl
theorem dksX3_record_3 : cX3_record.data.toList.drop 70 = dktX3_record_3 := dk_seg dksX3_record_2 24 rfl rfl
theorem dksX3_record_4 : cX3_record.data.toList.drop 94 = dktX3_record_4 := dk_seg dksX3_record_3 24 rfl rfl
theorem dksX3_record_5 : cX3_record.data.toList.drop 117 = dktX3_record_5 := dk_seg dksX3_record_4 23 rfl rfl
theorem dX3_record_0 : decode cX3_record 0 = .ok (.aload_n 0, 1) := dk_42 (dk_at dksX3_record_0 0 rfl rfl)
theorem dX3_record_1 : decode cX3_record 1 = .ok (.getfield 75, 3) := dk_180 0 75 (dk_at dksX3_record_0 1 rfl rfl)
theorem dX3_record_4 : decode cX3_record 4 = .ok (.astore_n 1, 1) := dk_76 (dk_at dksX3_record_0 4 rfl rfl)
theorem dX3_record_5 : decode cX3_record 5 = .ok (.aload_n 1, 1) := dk_43 (dk_at dksX3_record_0 5 rfl rfl)
theorem dX3_record_6 : decode cX3_record 6 = .ok (.arraylength, 1) := dk_190 (dk_at dksX3_record_0 6 rfl rfl)
theorem dX3_record_7 : decode cX3_record 7 = .ok (.istore_n 2, 1) := dk_61 (dk_at dksX3_record_0 7 rfl rfl)
theorem dX3_record_8 : decode cX3_record 8 = .ok (.iconst 0, 1) := dk_3 (dk_at dksX3_record_0 8 rfl rfl)
theorem dX3_record_9 : decode cX3_record 9 = .ok (.istore_n 3, 1) := dk_62 (dk_at dksX3_record_0 9 rfl rfl)
theorem dX3_record_10 : decode cX3_record 10 = .ok (.iload_n 3, 1) := dk_29 (dk_at dksX3_record_0 10 rfl rfl)
theorem dX3_record_11 : decode cX3_record 11 = .ok (.iload_n 2, 1) := dk_28 (dk_at dksX3_record_0 11 rfl rfl)
theorem dX3_record_12 : decode cX3_record 12 = .ok (.if_icmp .ge 37, 3) := dk_162 0 37 (dk_at dksX3_record_0 12 rfl rfl)
theorem dX3_record_15 : decode cX3_record 15 = .ok (.aload_n 1, 1) := dk_43 (dk_at dksX3_record_0 15 rfl rfl)
theorem dX3_record_16 : decode cX3_record 16 = .ok (.iload_n 3, 1) := dk_29 (dk_at dksX3_record_0 16 rfl rfl)
theorem dX3_record_17 : decode cX3_record 17 = .ok (.aaload, 1) := dk_50 (dk_at dksX3_record_0 17 rfl rfl)
theorem dX3_record_18 : decode cX3_record 18 = .ok (.astore 4, 2) := dk_58 4 (dk_at dksX3_record_0 18 rfl rfl)
theorem dX3_record_20 : decode cX3_record 20 = .ok (.iconst 0, 1) := dk_3 (dk_at dksX3_record_0 20 rfl rfl)
theorem dX3_record_21 : decode cX3_record 21 = .ok (.istore 5, 2) := dk_54 5 (dk_at dksX3_record_0 21 rfl rfl)
theorem dX3_record_23 : decode cX3_record 23 = .ok (.iload 5, 2) := dk_21 5 (dk_at dksX3_record_1 0 rfl rfl)
theorem dX3_record_25 : decode cX3_record 25 = .ok (.aload 4, 2) := dk_25 4 (dk_at dksX3_record_1 2 rfl rfl)
theorem dX3_record_27 : decode cX3_record 27 = .ok (.arraylength, 1) := dk_190 (dk_at dksX3_record_1 4 rfl rfl)
theorem dX3_record_28 : decode cX3_record 28 = .ok (.if_icmp .ge 15, 3) := dk_162 0 15 (dk_at dksX3_record_1 5 rfl rfl)
theorem dX3_record_31 : decode cX3_record 31 = .ok (.aload 4, 2) := dk_25 4 (dk_at dksX3_record_1 8 rfl rfl)
theorem dX3_record_33 : decode cX3_record 33 = .ok (.iload 5, 2) := dk_21 5 (dk_at dksX3_record_1 10 rfl rfl)
theorem dX3_record_35 : decode cX3_record 35 = .ok (.iconst 0, 1) := dk_3 (dk_at dksX3_record_1 12 rfl rfl)
theorem dX3_record_36 : decode cX3_record 36 = .ok (.iastore, 1) := dk_79 (dk_at dksX3_record_1 13 rfl rfl)
theorem dX3_record_37 : decode cX3_record 37 = .ok (.iinc 5 1, 3) := dk_132 5 1 (dk_at dksX3_record_1 14 rfl rfl)
theorem dX3_record_40 : decode cX3_record 40 = .ok (.goto (-17), 3) := dk_167 255 239 (dk_at dksX3_record_1 17 rfl rfl)
theorem dX3_record_43 : decode cX3_record 43 = .ok (.iinc 3 1, 3) := dk_132 3 1 (dk_at dksX3_record_1 20 rfl rfl)
theorem dX3_record_46 : decode cX3_record 46 = .ok (.goto (-36), 3) := dk_167 255 220 (dk_at dksX3_record_2 0 rfl rfl)
theorem dX3_record_49 : decode cX3_record 49 = .ok (.aload_n 0, 1) := dk_42 (dk_at dksX3_record_2 3 rfl rfl)
theorem dX3_record_50 : decode cX3_record 50 = .ok (.getfield 20, 3) := dk_180 0 20 (dk_at dksX3_record_2 4 rfl rfl)
theorem dX3_record_53 : decode cX3_record 53 = .ok (.iconst 0, 1) := dk_3 (dk_at dksX3_record_2 7 rfl rfl)
theorem dX3_record_54 : decode cX3_record 54 = .ok (.invokevirtual 105, 3) := dk_182 0 105 (dk_at dksX3_record_2 8 rfl rfl)
theorem dX3_record_57 : decode cX3_record 57 = .ok (.istore_n 1, 1) := dk_60 (dk_at dksX3_record_2 11 rfl rfl)
theorem dX3_record_58 : decode cX3_record 58 = .ok (.iload_n 1, 1) := dk_27 (dk_at dksX3_record_2 12 rfl rfl)
theorem dX3_record_59 : decode cX3_record 59 = .ok (.ifCond .lt 45, 3) := dk_155 0 45 (dk_at dksX3_record_2 13 rfl rfl)
theorem dX3_record_62 : decode cX3_record 62 = .ok (.iconst 0, 1) := dk_3 (dk_at dksX3_record_2 16 rfl rfl)
theorem dX3_record_63 : decode cX3_record 63 = .ok (.istore_n 2, 1) := dk_61 (dk_at dksX3_record_2 17 rfl rfl)
theorem dX3_record_64 : decode cX3_record 64 = .ok (.iload_n 2, 1) := dk_28 (dk_at dksX3_record_2 18 rfl rfl)
theorem dX3_record_65 : decode cX3_record 65 = .ok (.aload_n 0, 1) := dk_42 (dk_at dksX3_record_2 19 rfl rfl)
theorem dX3_record_66 : decode cX3_record 66 = .ok (.getfield 75, 3) := dk_180 0 75 (dk_at dksX3_record_2 20 rfl rfl)
theorem dX3_record_69 : decode cX3_record 69 = .ok (.arraylength, 1) := dk_190 (dk_at dksX3_record_2 23 rfl rfl)
theorem dX3_record_70 : decode cX3_record 70 = .ok (.if_icmp .ge 20, 3) := dk_162 0 20 (dk_at dksX3_record_3 0 rfl rfl)
theorem dX3_record_73 : decode cX3_record 73 = .ok (.aload_n 0, 1) := dk_42 (dk_at dksX3_record_3 3 rfl rfl)
theorem dX3_record_74 : decode cX3_record 74 = .ok (.aload_n 0, 1) := dk_42 (dk_at dksX3_record_3 4 rfl rfl)
theorem dX3_record_75 : decode cX3_record 75 = .ok (.getfield 41, 3) := dk_180 0 41 (dk_at dksX3_record_3 5 rfl rfl)
theorem dX3_record_78 : decode cX3_record 78 = .ok (.iload_n 1, 1) := dk_27 (dk_at dksX3_record_3 8 rfl rfl)
theorem dX3_record_79 : decode cX3_record 79 = .ok (.aaload, 1) := dk_50 (dk_at dksX3_record_3 9 rfl rfl)
theorem dX3_record_80 : decode cX3_record 80 = .ok (.iload_n 2, 1) := dk_28 (dk_at dksX3_record_3 10 rfl rfl)
theorem dX3_record_81 : decode cX3_record 81 = .ok (.invokevirtual 109, 3) := dk_182 0 109 (dk_at dksX3_record_3 11 rfl rfl)
theorem dX3_record_84 : decode cX3_record 84 = .ok (.iinc 2 1, 3) := dk_132 2 1 (dk_at dksX3_record_3 14 rfl rfl)
theorem dX3_record_87 : decode cX3_record 87 = .ok (.goto (-23), 3) := dk_167 255 233 (dk_at dksX3_record_3 17 rfl rfl)
theorem dX3_record_90 : decode cX3_record 90 = .ok (.aload_n 0, 1) := dk_42 (dk_at dksX3_record_3 20 rfl rfl)
theorem dX3_record_91 : decode cX3_record 91 = .ok (.getfield 20, 3) := dk_180 0 20 (dk_at dksX3_record_3 21 rfl rfl)
theorem dX3_record_94 : decode cX3_record 94 = .ok (.iload_n 1, 1) := dk_27 (dk_at dksX3_record_4 0 rfl rfl)
theorem dX3_record_95 : decode cX3_record 95 = .ok (.iconst 1, 1) := dk_4 (dk_at dksX3_record_4 1 rfl rfl)
theorem dX3_record_96 : decode cX3_record 96 = .ok (.iadd, 1) := dk_96 (dk_at dksX3_record_4 2 rfl rfl)
theorem dX3_record_97 : decode cX3_record 97 = .ok (.invokevirtual 105, 3) := dk_182 0 105 (dk_at dksX3_record_4 3 rfl rfl)
theorem dX3_record_100 : decode cX3_record 100 = .ok (.istore_n 1, 1) := dk_60 (dk_at dksX3_record_4 6 rfl rfl)
theorem dX3_record_101 : decode cX3_record 101 = .ok (.goto (-43), 3) := dk_167 255 213 (dk_at dksX3_record_4 7 rfl rfl)
theorem dX3_record_104 : decode cX3_record 104 = .ok (.iconst 0, 1) := dk_3 (dk_at dksX3_record_4 10 rfl rfl)
theorem dX3_record_105 : decode cX3_record 105 = .ok (.istore_n 1, 1) := dk_60 (dk_at dksX3_record_4 11 rfl rfl)
theorem dX3_record_106 : decode cX3_record 106 = .ok (.iload_n 1, 1) := dk_27 (dk_at dksX3_record_4 12 rfl rfl)
theorem dX3_record_107 : decode cX3_record 107 = .ok (.aload_n 0, 1) := dk_42 (dk_at dksX3_record_4 13 rfl rfl)
theorem dX3_record_108 : decode cX3_record 108 = .ok (.getfield 75, 3) := dk_180 0 75 (dk_at dksX3_record_4 14 rfl rfl)
theorem dX3_record_111 : decode cX3_record 111 = .ok (.arraylength, 1) := dk_190 (dk_at dksX3_record_4 17 rfl rfl)
theorem dX3_record_112 : decode cX3_record 112 = .ok (.if_icmp .ge 14, 3) := dk_162 0 14 (dk_at dksX3_record_4 18 rfl rfl)
theorem dX3_record_115 : decode cX3_record 115 = .ok (.aload_n 0, 1) := dk_42 (dk_at dksX3_record_4 21 rfl rfl)
theorem dX3_record_116 : decode cX3_record 116 = .ok (.iload_n 1, 1) := dk_27 (dk_at dksX3_record_4 22 rfl rfl)
theorem dX3_record_117 : decode cX3_record 117 = .ok (.invokevirtual 113, 3) := dk_182 0 113 (dk_at dksX3_record_5 0 rfl rfl)
theorem dX3_record_120 : decode cX3_record 120 = .ok (.iinc 1 1, 3) := dk_132 1 1 (dk_at dksX3_record_5 3 rfl rfl)
theorem dX3_record_123 : decode cX3_record 123 = .ok (.goto (-17), 3) := dk_167 255 239 (dk_at dksX3_record_5 6 rfl rfl)
theorem dX3_record_126 : decode cX3_record 126 = .ok (.aload_n 0, 1) := dk_42 (dk_at dksX3_record_5 9 rfl rfl)
theorem dX3_record_127 : decode cX3_record 127 = .ok (.iconst 0, 1) := dk_3 (dk_at dksX3_record_5 10 rfl rfl)
theorem dX3_record_128 : decode cX3_record 128 = .ok (.putfield 98, 3) := dk_181 0 98 (dk_at dksX3_record_5 11 rfl rfl)
theorem dX3_record_131 : decode cX3_record 131 = .ok (.aload_n 0, 1) := dk_42 (dk_at dksX3_record_5 14 rfl rfl)
theorem dX3_record_132 : decode cX3_record 132 = .ok (.aconst_null, 1) := dk_1 (dk_at dksX3_record_5 15 rfl rfl)
theorem dX3_record_133 : decode cX3_record 133 = .ok (.putfield 101, 3) := dk_181 0 101 (dk_at dksX3_record_5 16 rfl rfl)
theorem dX3_record_136 : decode cX3_record 136 = .ok (.return_, 1) := dk_177 (dk_at dksX3_record_5 19 rfl rfl)
abbrev cX3_add : ByteArray := prog_9_method_6_code
def yX3_add : MethodName := ⟨RX3, "add", "(LAcousticCamera$Source;I)V"⟩
def dkwX3_add_2 : List UInt8 := [79, 132, 4, 1, 167, 255, 219, 177]
abbrev dktX3_add_2 : List UInt8 := dkwX3_add_2 ++ []
def dkwX3_add_1 : List UInt8 := [162, 0, 31, 42, 180, 0, 75, 28, 50, 21, 4, 92, 46, 42, 43, 28, 21, 4, 29, 100, 182, 0, 150, 96]
abbrev dktX3_add_1 : List UInt8 := dkwX3_add_1 ++ dktX3_add_2
def dkwX3_add_0 : List UInt8 := [42, 180, 0, 23, 180, 0, 147, 28, 46, 62, 29, 54, 4, 21, 4, 42, 180, 0, 23, 180, 0, 69]
abbrev dktX3_add_0 : List UInt8 := dkwX3_add_0 ++ dktX3_add_1
theorem dksX3_add_0 : cX3_add.data.toList.drop 0 = dktX3_add_0 := by decide +kernel
theorem dksX3_add_1 : cX3_add.data.toList.drop 22 = dktX3_add_1 := dk_seg dksX3_add_0 22 rfl rfl
theorem dksX3_add_2 : cX3_add.data.toList.drop 46 = dktX3_add_2 := dk_seg dksX3_add_1 24 rfl rfl
theorem dX3_add_0 : decode cX3_add 0 = .ok (.aload_n 0, 1) := dk_42 (dk_at dksX3_add_0 0 rfl rfl)
theorem dX3_add_1 : decode cX3_add 1 = .ok (.getfield 23, 3) := dk_180 0 23 (dk_at dksX3_add_0 1 rfl rfl)
theorem dX3_add_4 : decode cX3_add 4 = .ok (.getfield 147, 3) := dk_180 0 147 (dk_at dksX3_add_0 4 rfl rfl)
theorem dX3_add_7 : decode cX3_add 7 = .ok (.iload_n 2, 1) := dk_28 (dk_at dksX3_add_0 7 rfl rfl)
theorem dX3_add_8 : decode cX3_add 8 = .ok (.iaload, 1) := dk_46 (dk_at dksX3_add_0 8 rfl rfl)
theorem dX3_add_9 : decode cX3_add 9 = .ok (.istore_n 3, 1) := dk_62 (dk_at dksX3_add_0 9 rfl rfl)
theorem dX3_add_10 : decode cX3_add 10 = .ok (.iload_n 3, 1) := dk_29 (dk_at dksX3_add_0 10 rfl rfl)
theorem dX3_add_11 : decode cX3_add 11 = .ok (.istore 4, 2) := dk_54 4 (dk_at dksX3_add_0 11 rfl rfl)
theorem dX3_add_13 : decode cX3_add 13 = .ok (.iload 4, 2) := dk_21 4 (dk_at dksX3_add_0 13 rfl rfl)
theorem dX3_add_15 : decode cX3_add 15 = .ok (.aload_n 0, 1) := dk_42 (dk_at dksX3_add_0 15 rfl rfl)
theorem dX3_add_16 : decode cX3_add 16 = .ok (.getfield 23, 3) := dk_180 0 23 (dk_at dksX3_add_0 16 rfl rfl)
theorem dX3_add_19 : decode cX3_add 19 = .ok (.getfield 69, 3) := dk_180 0 69 (dk_at dksX3_add_0 19 rfl rfl)
theorem dX3_add_22 : decode cX3_add 22 = .ok (.if_icmp .ge 31, 3) := dk_162 0 31 (dk_at dksX3_add_1 0 rfl rfl)
theorem dX3_add_25 : decode cX3_add 25 = .ok (.aload_n 0, 1) := dk_42 (dk_at dksX3_add_1 3 rfl rfl)
theorem dX3_add_26 : decode cX3_add 26 = .ok (.getfield 75, 3) := dk_180 0 75 (dk_at dksX3_add_1 4 rfl rfl)
theorem dX3_add_29 : decode cX3_add 29 = .ok (.iload_n 2, 1) := dk_28 (dk_at dksX3_add_1 7 rfl rfl)
theorem dX3_add_30 : decode cX3_add 30 = .ok (.aaload, 1) := dk_50 (dk_at dksX3_add_1 8 rfl rfl)
theorem dX3_add_31 : decode cX3_add 31 = .ok (.iload 4, 2) := dk_21 4 (dk_at dksX3_add_1 9 rfl rfl)
theorem dX3_add_33 : decode cX3_add 33 = .ok (.dup2, 1) := dk_92 (dk_at dksX3_add_1 11 rfl rfl)
theorem dX3_add_34 : decode cX3_add 34 = .ok (.iaload, 1) := dk_46 (dk_at dksX3_add_1 12 rfl rfl)
theorem dX3_add_35 : decode cX3_add 35 = .ok (.aload_n 0, 1) := dk_42 (dk_at dksX3_add_1 13 rfl rfl)
theorem dX3_add_36 : decode cX3_add 36 = .ok (.aload_n 1, 1) := dk_43 (dk_at dksX3_add_1 14 rfl rfl)
theorem dX3_add_37 : decode cX3_add 37 = .ok (.iload_n 2, 1) := dk_28 (dk_at dksX3_add_1 15 rfl rfl)
theorem dX3_add_38 : decode cX3_add 38 = .ok (.iload 4, 2) := dk_21 4 (dk_at dksX3_add_1 16 rfl rfl)
theorem dX3_add_40 : decode cX3_add 40 = .ok (.iload_n 3, 1) := dk_29 (dk_at dksX3_add_1 18 rfl rfl)
theorem dX3_add_41 : decode cX3_add 41 = .ok (.isub, 1) := dk_100 (dk_at dksX3_add_1 19 rfl rfl)
theorem dX3_add_42 : decode cX3_add 42 = .ok (.invokevirtual 150, 3) := dk_182 0 150 (dk_at dksX3_add_1 20 rfl rfl)
theorem dX3_add_45 : decode cX3_add 45 = .ok (.iadd, 1) := dk_96 (dk_at dksX3_add_1 23 rfl rfl)
theorem dX3_add_46 : decode cX3_add 46 = .ok (.iastore, 1) := dk_79 (dk_at dksX3_add_2 0 rfl rfl)
theorem dX3_add_47 : decode cX3_add 47 = .ok (.iinc 4 1, 3) := dk_132 4 1 (dk_at dksX3_add_2 1 rfl rfl)
theorem dX3_add_50 : decode cX3_add 50 = .ok (.goto (-37), 3) := dk_167 255 219 (dk_at dksX3_add_2 4 rfl rfl)
theorem dX3_add_53 : decode cX3_add 53 = .ok (.return_, 1) := dk_177 (dk_at dksX3_add_2 7 rfl rfl)
abbrev cX3_heardWithImages : ByteArray := prog_9_method_5_code
def yX3_heardWithImages : MethodName := ⟨RX3, "heardWithImages", "(LAcousticCamera$Source;II)I"⟩
def dkwX3_heardWithImages_4 : List UInt8 := [104, 16, 100, 108, 96, 54, 6, 132, 7, 1, 167, 255, 184, 21, 6, 172]
abbrev dktX3_heardWithImages_4 : List UInt8 := dkwX3_heardWithImages_4 ++ []
def dkwX3_heardWithImages_3 : List UInt8 := [42, 43, 28, 5, 25, 8, 180, 0, 141, 104, 21, 4, 100, 21, 5, 29, 182, 0, 132, 25, 8, 180, 0, 144]
abbrev dktX3_heardWithImages_3 : List UInt8 := dkwX3_heardWithImages_3 ++ dktX3_heardWithImages_4
def dkwX3_heardWithImages_2 : List UInt8 := [162, 0, 61, 42, 180, 0, 23, 180, 0, 136, 21, 7, 185, 0, 44, 2, 0, 192, 0, 139, 58, 8, 21, 6]
abbrev dktX3_heardWithImages_2 : List UInt8 := dkwX3_heardWithImages_2 ++ dktX3_heardWithImages_3
def dkwX3_heardWithImages_1 : List UInt8 := [182, 0, 132, 54, 6, 3, 54, 7, 21, 7, 42, 180, 0, 23, 180, 0, 136, 185, 0, 33, 1, 0]
abbrev dktX3_heardWithImages_1 : List UInt8 := dkwX3_heardWithImages_1 ++ dktX3_heardWithImages_2
def dkwX3_heardWithImages_0 : List UInt8 := [43, 29, 182, 0, 126, 54, 4, 43, 29, 182, 0, 129, 54, 5, 42, 43, 28, 21, 4, 21, 5, 29]
abbrev dktX3_heardWithImages_0 : List UInt8 := dkwX3_heardWithImages_0 ++ dktX3_heardWithImages_1
theorem dksX3_heardWithImages_0 : cX3_heardWithImages.data.toList.drop 0 = dktX3_heardWithImages_0 := by decide +kernel
theorem dksX3_heardWithImages_1 : cX3_heardWithImages.data.toList.drop 22 = dktX3_heardWithImages_1 := dk_seg dksX3_heardWithImages_0 22 rfl rfl
theorem dksX3_heardWithImages_2 : cX3_heardWithImages.data.toList.drop 44 = dktX3_heardWithImages_2 := dk_seg dksX3_heardWithImages_1 22 rfl rfl
theorem dksX3_heardWithImages_3 : cX3_heardWithImages.data.toList.drop 68 = dktX3_heardWithImages_3 := dk_seg dksX3_heardWithImages_2 24 rfl rfl
theorem dksX3_heardWithImages_4 : cX3_heardWithImages.data.toList.drop 92 = dktX3_heardWithImages_4 := dk_seg dksX3_heardWithImages_3 24 rfl rfl
theorem dX3_heardWithImages_0 : decode cX3_heardWithImages 0 = .ok (.aload_n 1, 1) := dk_43 (dk_at dksX3_heardWithImages_0 0 rfl rfl)
theorem dX3_heardWithImages_1 : decode cX3_heardWithImages 1 = .ok (.iload_n 3, 1) := dk_29 (dk_at dksX3_heardWithImages_0 1 rfl rfl)
theorem dX3_heardWithImages_2 : decode cX3_heardWithImages 2 = .ok (.invokevirtual 126, 3) := dk_182 0 126 (dk_at dksX3_heardWithImages_0 2 rfl rfl)
theorem dX3_heardWithImages_5 : decode cX3_heardWithImages 5 = .ok (.istore 4, 2) := dk_54 4 (dk_at dksX3_heardWithImages_0 5 rfl rfl)
theorem dX3_heardWithImages_7 : decode cX3_heardWithImages 7 = .ok (.aload_n 1, 1) := dk_43 (dk_at dksX3_heardWithImages_0 7 rfl rfl)
theorem dX3_heardWithImages_8 : decode cX3_heardWithImages 8 = .ok (.iload_n 3, 1) := dk_29 (dk_at dksX3_heardWithImages_0 8 rfl rfl)
theorem dX3_heardWithImages_9 : decode cX3_heardWithImages 9 = .ok (.invokevirtual 129, 3) := dk_182 0 129 (dk_at dksX3_heardWithImages_0 9 rfl rfl)
theorem dX3_heardWithImages_12 : decode cX3_heardWithImages 12 = .ok (.istore 5, 2) := dk_54 5 (dk_at dksX3_heardWithImages_0 12 rfl rfl)
theorem dX3_heardWithImages_14 : decode cX3_heardWithImages 14 = .ok (.aload_n 0, 1) := dk_42 (dk_at dksX3_heardWithImages_0 14 rfl rfl)
theorem dX3_heardWithImages_15 : decode cX3_heardWithImages 15 = .ok (.aload_n 1, 1) := dk_43 (dk_at dksX3_heardWithImages_0 15 rfl rfl)
theorem dX3_heardWithImages_16 : decode cX3_heardWithImages 16 = .ok (.iload_n 2, 1) := dk_28 (dk_at dksX3_heardWithImages_0 16 rfl rfl)
theorem dX3_heardWithImages_17 : decode cX3_heardWithImages 17 = .ok (.iload 4, 2) := dk_21 4 (dk_at dksX3_heardWithImages_0 17 rfl rfl)
theorem dX3_heardWithImages_19 : decode cX3_heardWithImages 19 = .ok (.iload 5, 2) := dk_21 5 (dk_at dksX3_heardWithImages_0 19 rfl rfl)
theorem dX3_heardWithImages_21 : decode cX3_heardWithImages 21 = .ok (.iload_n 3, 1) := dk_29 (dk_at dksX3_heardWithImages_0 21 rfl rfl)
theorem dX3_heardWithImages_22 : decode cX3_heardWithImages 22 = .ok (.invokevirtual 132, 3) := dk_182 0 132 (dk_at dksX3_heardWithImages_1 0 rfl rfl)
theorem dX3_heardWithImages_25 : decode cX3_heardWithImages 25 = .ok (.istore 6, 2) := dk_54 6 (dk_at dksX3_heardWithImages_1 3 rfl rfl)
theorem dX3_heardWithImages_27 : decode cX3_heardWithImages 27 = .ok (.iconst 0, 1) := dk_3 (dk_at dksX3_heardWithImages_1 5 rfl rfl)
theorem dX3_heardWithImages_28 : decode cX3_heardWithImages 28 = .ok (.istore 7, 2) := dk_54 7 (dk_at dksX3_heardWithImages_1 6 rfl rfl)
theorem dX3_heardWithImages_30 : decode cX3_heardWithImages 30 = .ok (.iload 7, 2) := dk_21 7 (dk_at dksX3_heardWithImages_1 8 rfl rfl)
theorem dX3_heardWithImages_32 : decode cX3_heardWithImages 32 = .ok (.aload_n 0, 1) := dk_42 (dk_at dksX3_heardWithImages_1 10 rfl rfl)
theorem dX3_heardWithImages_33 : decode cX3_heardWithImages 33 = .ok (.getfield 23, 3) := dk_180 0 23 (dk_at dksX3_heardWithImages_1 11 rfl rfl)
theorem dX3_heardWithImages_36 : decode cX3_heardWithImages 36 = .ok (.getfield 136, 3) := dk_180 0 136 (dk_at dksX3_heardWithImages_1 14 rfl rfl)
theorem dX3_heardWithImages_39 : decode cX3_heardWithImages 39 = .ok (.invokeinterface 33 1, 5) := by decide +kernel
theorem dX3_heardWithImages_44 : decode cX3_heardWithImages 44 = .ok (.if_icmp .ge 61, 3) := dk_162 0 61 (dk_at dksX3_heardWithImages_2 0 rfl rfl)
theorem dX3_heardWithImages_47 : decode cX3_heardWithImages 47 = .ok (.aload_n 0, 1) := dk_42 (dk_at dksX3_heardWithImages_2 3 rfl rfl)
theorem dX3_heardWithImages_48 : decode cX3_heardWithImages 48 = .ok (.getfield 23, 3) := dk_180 0 23 (dk_at dksX3_heardWithImages_2 4 rfl rfl)
theorem dX3_heardWithImages_51 : decode cX3_heardWithImages 51 = .ok (.getfield 136, 3) := dk_180 0 136 (dk_at dksX3_heardWithImages_2 7 rfl rfl)
theorem dX3_heardWithImages_54 : decode cX3_heardWithImages 54 = .ok (.iload 7, 2) := dk_21 7 (dk_at dksX3_heardWithImages_2 10 rfl rfl)
theorem dX3_heardWithImages_56 : decode cX3_heardWithImages 56 = .ok (.invokeinterface 44 2, 5) := by decide +kernel
theorem dX3_heardWithImages_61 : decode cX3_heardWithImages 61 = .ok (.checkcast 139, 3) := dk_192 0 139 (dk_at dksX3_heardWithImages_2 17 rfl rfl)
theorem dX3_heardWithImages_64 : decode cX3_heardWithImages 64 = .ok (.astore 8, 2) := dk_58 8 (dk_at dksX3_heardWithImages_2 20 rfl rfl)
theorem dX3_heardWithImages_66 : decode cX3_heardWithImages 66 = .ok (.iload 6, 2) := dk_21 6 (dk_at dksX3_heardWithImages_2 22 rfl rfl)
theorem dX3_heardWithImages_68 : decode cX3_heardWithImages 68 = .ok (.aload_n 0, 1) := dk_42 (dk_at dksX3_heardWithImages_3 0 rfl rfl)
theorem dX3_heardWithImages_69 : decode cX3_heardWithImages 69 = .ok (.aload_n 1, 1) := dk_43 (dk_at dksX3_heardWithImages_3 1 rfl rfl)
theorem dX3_heardWithImages_70 : decode cX3_heardWithImages 70 = .ok (.iload_n 2, 1) := dk_28 (dk_at dksX3_heardWithImages_3 2 rfl rfl)
theorem dX3_heardWithImages_71 : decode cX3_heardWithImages 71 = .ok (.iconst 2, 1) := dk_5 (dk_at dksX3_heardWithImages_3 3 rfl rfl)
theorem dX3_heardWithImages_72 : decode cX3_heardWithImages 72 = .ok (.aload 8, 2) := dk_25 8 (dk_at dksX3_heardWithImages_3 4 rfl rfl)
theorem dX3_heardWithImages_74 : decode cX3_heardWithImages 74 = .ok (.getfield 141, 3) := dk_180 0 141 (dk_at dksX3_heardWithImages_3 6 rfl rfl)
theorem dX3_heardWithImages_77 : decode cX3_heardWithImages 77 = .ok (.imul, 1) := dk_104 (dk_at dksX3_heardWithImages_3 9 rfl rfl)
theorem dX3_heardWithImages_78 : decode cX3_heardWithImages 78 = .ok (.iload 4, 2) := dk_21 4 (dk_at dksX3_heardWithImages_3 10 rfl rfl)
theorem dX3_heardWithImages_80 : decode cX3_heardWithImages 80 = .ok (.isub, 1) := dk_100 (dk_at dksX3_heardWithImages_3 12 rfl rfl)
theorem dX3_heardWithImages_81 : decode cX3_heardWithImages 81 = .ok (.iload 5, 2) := dk_21 5 (dk_at dksX3_heardWithImages_3 13 rfl rfl)
theorem dX3_heardWithImages_83 : decode cX3_heardWithImages 83 = .ok (.iload_n 3, 1) := dk_29 (dk_at dksX3_heardWithImages_3 15 rfl rfl)
theorem dX3_heardWithImages_84 : decode cX3_heardWithImages 84 = .ok (.invokevirtual 132, 3) := dk_182 0 132 (dk_at dksX3_heardWithImages_3 16 rfl rfl)
theorem dX3_heardWithImages_87 : decode cX3_heardWithImages 87 = .ok (.aload 8, 2) := dk_25 8 (dk_at dksX3_heardWithImages_3 19 rfl rfl)
theorem dX3_heardWithImages_89 : decode cX3_heardWithImages 89 = .ok (.getfield 144, 3) := dk_180 0 144 (dk_at dksX3_heardWithImages_3 21 rfl rfl)
theorem dX3_heardWithImages_92 : decode cX3_heardWithImages 92 = .ok (.imul, 1) := dk_104 (dk_at dksX3_heardWithImages_4 0 rfl rfl)
theorem dX3_heardWithImages_93 : decode cX3_heardWithImages 93 = .ok (.bipush 100, 2) := dk_16 100 (dk_at dksX3_heardWithImages_4 1 rfl rfl)
theorem dX3_heardWithImages_95 : decode cX3_heardWithImages 95 = .ok (.idiv, 1) := dk_108 (dk_at dksX3_heardWithImages_4 3 rfl rfl)
theorem dX3_heardWithImages_96 : decode cX3_heardWithImages 96 = .ok (.iadd, 1) := dk_96 (dk_at dksX3_heardWithImages_4 4 rfl rfl)
theorem dX3_heardWithImages_97 : decode cX3_heardWithImages 97 = .ok (.istore 6, 2) := dk_54 6 (dk_at dksX3_heardWithImages_4 5 rfl rfl)
theorem dX3_heardWithImages_99 : decode cX3_heardWithImages 99 = .ok (.iinc 7 1, 3) := dk_132 7 1 (dk_at dksX3_heardWithImages_4 7 rfl rfl)
theorem dX3_heardWithImages_102 : decode cX3_heardWithImages 102 = .ok (.goto (-72), 3) := dk_167 255 184 (dk_at dksX3_heardWithImages_4 10 rfl rfl)
theorem dX3_heardWithImages_105 : decode cX3_heardWithImages 105 = .ok (.iload 6, 2) := dk_21 6 (dk_at dksX3_heardWithImages_4 13 rfl rfl)
theorem dX3_heardWithImages_107 : decode cX3_heardWithImages 107 = .ok (.ireturn, 1) := dk_172 (dk_at dksX3_heardWithImages_4 15 rfl rfl)
abbrev cX3_heard : ByteArray := prog_9_method_4_code
def yX3_heard : MethodName := ⟨RX3, "heard", "(LAcousticCamera$Source;IIII)I"⟩
def dkwX3_heard_3 : List UInt8 := [172]
abbrev dktX3_heard_3 : List UInt8 := dkwX3_heard_3 ++ []
def dkwX3_heard_2 : List UInt8 := [167, 0, 24, 21, 7, 42, 180, 0, 23, 180, 0, 123, 104, 42, 180, 0, 23, 180, 0, 123, 21, 6, 96, 108]
abbrev dktX3_heard_2 : List UInt8 := dkwX3_heard_2 ++ dktX3_heard_3
def dkwX3_heard_1 : List UInt8 := [21, 5, 21, 6, 100, 182, 0, 120, 54, 7, 42, 180, 0, 23, 180, 0, 123, 154, 0, 8, 21, 7]
abbrev dktX3_heard_1 : List UInt8 := dkwX3_heard_1 ++ dktX3_heard_2
def dkwX3_heard_0 : List UInt8 := [42, 180, 0, 23, 28, 29, 21, 4, 182, 0, 116, 54, 6, 21, 6, 21, 5, 164, 0, 5, 3, 172, 43]
abbrev dktX3_heard_0 : List UInt8 := dkwX3_heard_0 ++ dktX3_heard_1
theorem dksX3_heard_0 : cX3_heard.data.toList.drop 0 = dktX3_heard_0 := by decide +kernel
theorem dksX3_heard_1 : cX3_heard.data.toList.drop 23 = dktX3_heard_1 := dk_seg dksX3_heard_0 23 rfl rfl
theorem dksX3_heard_2 : cX3_heard.data.toList.drop 45 = dktX3_heard_2 := dk_seg dksX3_heard_1 22 rfl rfl
theorem dksX3_heard_3 : cX3_heard.data.toList.drop 69 = dktX3_heard_3 := dk_seg dksX3_heard_2 24 rfl rfl
theorem dX3_heard_0 : decode cX3_heard 0 = .ok (.aload_n 0, 1) := dk_42 (dk_at dksX3_heard_0 0 rfl rfl)
theorem dX3_heard_1 : decode cX3_heard 1 = .ok (.getfield 23, 3) := dk_180 0 23 (dk_at dksX3_heard_0 1 rfl rfl)
theorem dX3_heard_4 : decode cX3_heard 4 = .ok (.iload_n 2, 1) := dk_28 (dk_at dksX3_heard_0 4 rfl rfl)
theorem dX3_heard_5 : decode cX3_heard 5 = .ok (.iload_n 3, 1) := dk_29 (dk_at dksX3_heard_0 5 rfl rfl)
theorem dX3_heard_6 : decode cX3_heard 6 = .ok (.iload 4, 2) := dk_21 4 (dk_at dksX3_heard_0 6 rfl rfl)
theorem dX3_heard_8 : decode cX3_heard 8 = .ok (.invokevirtual 116, 3) := dk_182 0 116 (dk_at dksX3_heard_0 8 rfl rfl)
theorem dX3_heard_11 : decode cX3_heard 11 = .ok (.istore 6, 2) := dk_54 6 (dk_at dksX3_heard_0 11 rfl rfl)
theorem dX3_heard_13 : decode cX3_heard 13 = .ok (.iload 6, 2) := dk_21 6 (dk_at dksX3_heard_0 13 rfl rfl)
theorem dX3_heard_15 : decode cX3_heard 15 = .ok (.iload 5, 2) := dk_21 5 (dk_at dksX3_heard_0 15 rfl rfl)
theorem dX3_heard_17 : decode cX3_heard 17 = .ok (.if_icmp .le 5, 3) := dk_164 0 5 (dk_at dksX3_heard_0 17 rfl rfl)
theorem dX3_heard_20 : decode cX3_heard 20 = .ok (.iconst 0, 1) := dk_3 (dk_at dksX3_heard_0 20 rfl rfl)
theorem dX3_heard_21 : decode cX3_heard 21 = .ok (.ireturn, 1) := dk_172 (dk_at dksX3_heard_0 21 rfl rfl)
theorem dX3_heard_22 : decode cX3_heard 22 = .ok (.aload_n 1, 1) := dk_43 (dk_at dksX3_heard_0 22 rfl rfl)
theorem dX3_heard_23 : decode cX3_heard 23 = .ok (.iload 5, 2) := dk_21 5 (dk_at dksX3_heard_1 0 rfl rfl)
theorem dX3_heard_25 : decode cX3_heard 25 = .ok (.iload 6, 2) := dk_21 6 (dk_at dksX3_heard_1 2 rfl rfl)
theorem dX3_heard_27 : decode cX3_heard 27 = .ok (.isub, 1) := dk_100 (dk_at dksX3_heard_1 4 rfl rfl)
theorem dX3_heard_28 : decode cX3_heard 28 = .ok (.invokevirtual 120, 3) := dk_182 0 120 (dk_at dksX3_heard_1 5 rfl rfl)
theorem dX3_heard_31 : decode cX3_heard 31 = .ok (.istore 7, 2) := dk_54 7 (dk_at dksX3_heard_1 8 rfl rfl)
theorem dX3_heard_33 : decode cX3_heard 33 = .ok (.aload_n 0, 1) := dk_42 (dk_at dksX3_heard_1 10 rfl rfl)
theorem dX3_heard_34 : decode cX3_heard 34 = .ok (.getfield 23, 3) := dk_180 0 23 (dk_at dksX3_heard_1 11 rfl rfl)
theorem dX3_heard_37 : decode cX3_heard 37 = .ok (.getfield 123, 3) := dk_180 0 123 (dk_at dksX3_heard_1 14 rfl rfl)
theorem dX3_heard_40 : decode cX3_heard 40 = .ok (.ifCond .ne 8, 3) := dk_154 0 8 (dk_at dksX3_heard_1 17 rfl rfl)
theorem dX3_heard_43 : decode cX3_heard 43 = .ok (.iload 7, 2) := dk_21 7 (dk_at dksX3_heard_1 20 rfl rfl)
theorem dX3_heard_45 : decode cX3_heard 45 = .ok (.goto 24, 3) := dk_167 0 24 (dk_at dksX3_heard_2 0 rfl rfl)
theorem dX3_heard_48 : decode cX3_heard 48 = .ok (.iload 7, 2) := dk_21 7 (dk_at dksX3_heard_2 3 rfl rfl)
theorem dX3_heard_50 : decode cX3_heard 50 = .ok (.aload_n 0, 1) := dk_42 (dk_at dksX3_heard_2 5 rfl rfl)
theorem dX3_heard_51 : decode cX3_heard 51 = .ok (.getfield 23, 3) := dk_180 0 23 (dk_at dksX3_heard_2 6 rfl rfl)
theorem dX3_heard_54 : decode cX3_heard 54 = .ok (.getfield 123, 3) := dk_180 0 123 (dk_at dksX3_heard_2 9 rfl rfl)
theorem dX3_heard_57 : decode cX3_heard 57 = .ok (.imul, 1) := dk_104 (dk_at dksX3_heard_2 12 rfl rfl)
theorem dX3_heard_58 : decode cX3_heard 58 = .ok (.aload_n 0, 1) := dk_42 (dk_at dksX3_heard_2 13 rfl rfl)
theorem dX3_heard_59 : decode cX3_heard 59 = .ok (.getfield 23, 3) := dk_180 0 23 (dk_at dksX3_heard_2 14 rfl rfl)
theorem dX3_heard_62 : decode cX3_heard 62 = .ok (.getfield 123, 3) := dk_180 0 123 (dk_at dksX3_heard_2 17 rfl rfl)
theorem dX3_heard_65 : decode cX3_heard 65 = .ok (.iload 6, 2) := dk_21 6 (dk_at dksX3_heard_2 20 rfl rfl)
theorem dX3_heard_67 : decode cX3_heard 67 = .ok (.iadd, 1) := dk_96 (dk_at dksX3_heard_2 22 rfl rfl)
theorem dX3_heard_68 : decode cX3_heard 68 = .ok (.idiv, 1) := dk_108 (dk_at dksX3_heard_2 23 rfl rfl)
theorem dX3_heard_69 : decode cX3_heard 69 = .ok (.ireturn, 1) := dk_172 (dk_at dksX3_heard_3 0 rfl rfl)
abbrev cX3_finish : ByteArray := prog_9_method_7_code
def yX3_finish : MethodName := ⟨RX3, "finish", "(I)V"⟩
def dkwX3_finish_6 : List UInt8 := [79, 132, 4, 255, 167, 255, 146, 177]
abbrev dktX3_finish_6 : List UInt8 := dkwX3_finish_6 ++ []
def dkwX3_finish_5 : List UInt8 := [180, 0, 23, 180, 0, 162, 116, 42, 180, 0, 23, 180, 0, 162, 28, 21, 5, 104, 184, 0, 165, 184, 0, 171]
abbrev dktX3_finish_5 : List UInt8 := dkwX3_finish_5 ++ dktX3_finish_6
def dkwX3_finish_4 : List UInt8 := [21, 6, 46, 45, 21, 4, 21, 6, 100, 46, 104, 96, 54, 5, 132, 6, 1, 167, 255, 210, 45, 21, 4, 42]
abbrev dktX3_finish_4 : List UInt8 := dkwX3_finish_4 ++ dktX3_finish_5
def dkwX3_finish_3 : List UInt8 := [180, 0, 159, 190, 162, 0, 39, 21, 6, 21, 4, 163, 0, 32, 21, 5, 42, 180, 0, 23, 180, 0, 159]
abbrev dktX3_finish_3 : List UInt8 := dkwX3_finish_3 ++ dktX3_finish_4
def dkwX3_finish_2 : List UInt8 := [154, 0, 10, 45, 21, 4, 46, 167, 0, 4, 3, 54, 5, 3, 54, 6, 21, 6, 42, 180, 0, 23]
abbrev dktX3_finish_2 : List UInt8 := dkwX3_finish_2 ++ dktX3_finish_3
def dkwX3_finish_1 : List UInt8 := [27, 50, 78, 45, 190, 4, 100, 54, 4, 21, 4, 155, 0, 111, 42, 180, 0, 23, 180, 0, 159, 190]
abbrev dktX3_finish_1 : List UInt8 := dkwX3_finish_1 ++ dktX3_finish_2
def dkwX3_finish_0 : List UInt8 := [42, 180, 0, 23, 180, 0, 59, 27, 185, 0, 44, 2, 0, 192, 0, 154, 180, 0, 156, 61, 42, 180, 0, 75]
abbrev dktX3_finish_0 : List UInt8 := dkwX3_finish_0 ++ dktX3_finish_1
theorem dksX3_finish_0 : cX3_finish.data.toList.drop 0 = dktX3_finish_0 := by decide +kernel
theorem dksX3_finish_1 : cX3_finish.data.toList.drop 24 = dktX3_finish_1 := dk_seg dksX3_finish_0 24 rfl rfl
theorem dksX3_finish_2 : cX3_finish.data.toList.drop 46 = dktX3_finish_2 := dk_seg dksX3_finish_1 22 rfl rfl
theorem dksX3_finish_3 : cX3_finish.data.toList.drop 68 = dktX3_finish_3 := dk_seg dksX3_finish_2 22 rfl rfl
theorem dksX3_finish_4 : cX3_finish.data.toList.drop 91 = dktX3_finish_4 := dk_seg dksX3_finish_3 23 rfl rfl
theorem dksX3_finish_5 : cX3_finish.data.toList.drop 115 = dktX3_finish_5 := dk_seg dksX3_finish_4 24 rfl rfl
theorem dksX3_finish_6 : cX3_finish.data.toList.drop 139 = dktX3_finish_6 := dk_seg dksX3_finish_5 24 rfl rfl
theorem dX3_finish_0 : decode cX3_finish 0 = .ok (.aload_n 0, 1) := dk_42 (dk_at dksX3_finish_0 0 rfl rfl)
theorem dX3_finish_1 : decode cX3_finish 1 = .ok (.getfield 23, 3) := dk_180 0 23 (dk_at dksX3_finish_0 1 rfl rfl)
theorem dX3_finish_4 : decode cX3_finish 4 = .ok (.getfield 59, 3) := dk_180 0 59 (dk_at dksX3_finish_0 4 rfl rfl)
theorem dX3_finish_7 : decode cX3_finish 7 = .ok (.iload_n 1, 1) := dk_27 (dk_at dksX3_finish_0 7 rfl rfl)
theorem dX3_finish_8 : decode cX3_finish 8 = .ok (.invokeinterface 44 2, 5) := by decide +kernel
theorem dX3_finish_13 : decode cX3_finish 13 = .ok (.checkcast 154, 3) := dk_192 0 154 (dk_at dksX3_finish_0 13 rfl rfl)
theorem dX3_finish_16 : decode cX3_finish 16 = .ok (.getfield 156, 3) := dk_180 0 156 (dk_at dksX3_finish_0 16 rfl rfl)
theorem dX3_finish_19 : decode cX3_finish 19 = .ok (.istore_n 2, 1) := dk_61 (dk_at dksX3_finish_0 19 rfl rfl)
theorem dX3_finish_20 : decode cX3_finish 20 = .ok (.aload_n 0, 1) := dk_42 (dk_at dksX3_finish_0 20 rfl rfl)
theorem dX3_finish_21 : decode cX3_finish 21 = .ok (.getfield 75, 3) := dk_180 0 75 (dk_at dksX3_finish_0 21 rfl rfl)
theorem dX3_finish_24 : decode cX3_finish 24 = .ok (.iload_n 1, 1) := dk_27 (dk_at dksX3_finish_1 0 rfl rfl)
theorem dX3_finish_25 : decode cX3_finish 25 = .ok (.aaload, 1) := dk_50 (dk_at dksX3_finish_1 1 rfl rfl)
theorem dX3_finish_26 : decode cX3_finish 26 = .ok (.astore_n 3, 1) := dk_78 (dk_at dksX3_finish_1 2 rfl rfl)
theorem dX3_finish_27 : decode cX3_finish 27 = .ok (.aload_n 3, 1) := dk_45 (dk_at dksX3_finish_1 3 rfl rfl)
theorem dX3_finish_28 : decode cX3_finish 28 = .ok (.arraylength, 1) := dk_190 (dk_at dksX3_finish_1 4 rfl rfl)
theorem dX3_finish_29 : decode cX3_finish 29 = .ok (.iconst 1, 1) := dk_4 (dk_at dksX3_finish_1 5 rfl rfl)
theorem dX3_finish_30 : decode cX3_finish 30 = .ok (.isub, 1) := dk_100 (dk_at dksX3_finish_1 6 rfl rfl)
theorem dX3_finish_31 : decode cX3_finish 31 = .ok (.istore 4, 2) := dk_54 4 (dk_at dksX3_finish_1 7 rfl rfl)
theorem dX3_finish_33 : decode cX3_finish 33 = .ok (.iload 4, 2) := dk_21 4 (dk_at dksX3_finish_1 9 rfl rfl)
theorem dX3_finish_35 : decode cX3_finish 35 = .ok (.ifCond .lt 111, 3) := dk_155 0 111 (dk_at dksX3_finish_1 11 rfl rfl)
theorem dX3_finish_38 : decode cX3_finish 38 = .ok (.aload_n 0, 1) := dk_42 (dk_at dksX3_finish_1 14 rfl rfl)
theorem dX3_finish_39 : decode cX3_finish 39 = .ok (.getfield 23, 3) := dk_180 0 23 (dk_at dksX3_finish_1 15 rfl rfl)
theorem dX3_finish_42 : decode cX3_finish 42 = .ok (.getfield 159, 3) := dk_180 0 159 (dk_at dksX3_finish_1 18 rfl rfl)
theorem dX3_finish_45 : decode cX3_finish 45 = .ok (.arraylength, 1) := dk_190 (dk_at dksX3_finish_1 21 rfl rfl)
theorem dX3_finish_46 : decode cX3_finish 46 = .ok (.ifCond .ne 10, 3) := dk_154 0 10 (dk_at dksX3_finish_2 0 rfl rfl)
theorem dX3_finish_49 : decode cX3_finish 49 = .ok (.aload_n 3, 1) := dk_45 (dk_at dksX3_finish_2 3 rfl rfl)
theorem dX3_finish_50 : decode cX3_finish 50 = .ok (.iload 4, 2) := dk_21 4 (dk_at dksX3_finish_2 4 rfl rfl)
theorem dX3_finish_52 : decode cX3_finish 52 = .ok (.iaload, 1) := dk_46 (dk_at dksX3_finish_2 6 rfl rfl)
theorem dX3_finish_53 : decode cX3_finish 53 = .ok (.goto 4, 3) := dk_167 0 4 (dk_at dksX3_finish_2 7 rfl rfl)
theorem dX3_finish_56 : decode cX3_finish 56 = .ok (.iconst 0, 1) := dk_3 (dk_at dksX3_finish_2 10 rfl rfl)
theorem dX3_finish_57 : decode cX3_finish 57 = .ok (.istore 5, 2) := dk_54 5 (dk_at dksX3_finish_2 11 rfl rfl)
theorem dX3_finish_59 : decode cX3_finish 59 = .ok (.iconst 0, 1) := dk_3 (dk_at dksX3_finish_2 13 rfl rfl)
theorem dX3_finish_60 : decode cX3_finish 60 = .ok (.istore 6, 2) := dk_54 6 (dk_at dksX3_finish_2 14 rfl rfl)
theorem dX3_finish_62 : decode cX3_finish 62 = .ok (.iload 6, 2) := dk_21 6 (dk_at dksX3_finish_2 16 rfl rfl)
theorem dX3_finish_64 : decode cX3_finish 64 = .ok (.aload_n 0, 1) := dk_42 (dk_at dksX3_finish_2 18 rfl rfl)
theorem dX3_finish_65 : decode cX3_finish 65 = .ok (.getfield 23, 3) := dk_180 0 23 (dk_at dksX3_finish_2 19 rfl rfl)
theorem dX3_finish_68 : decode cX3_finish 68 = .ok (.getfield 159, 3) := dk_180 0 159 (dk_at dksX3_finish_3 0 rfl rfl)
theorem dX3_finish_71 : decode cX3_finish 71 = .ok (.arraylength, 1) := dk_190 (dk_at dksX3_finish_3 3 rfl rfl)
theorem dX3_finish_72 : decode cX3_finish 72 = .ok (.if_icmp .ge 39, 3) := dk_162 0 39 (dk_at dksX3_finish_3 4 rfl rfl)
theorem dX3_finish_75 : decode cX3_finish 75 = .ok (.iload 6, 2) := dk_21 6 (dk_at dksX3_finish_3 7 rfl rfl)
theorem dX3_finish_77 : decode cX3_finish 77 = .ok (.iload 4, 2) := dk_21 4 (dk_at dksX3_finish_3 9 rfl rfl)
theorem dX3_finish_79 : decode cX3_finish 79 = .ok (.if_icmp .gt 32, 3) := dk_163 0 32 (dk_at dksX3_finish_3 11 rfl rfl)
theorem dX3_finish_82 : decode cX3_finish 82 = .ok (.iload 5, 2) := dk_21 5 (dk_at dksX3_finish_3 14 rfl rfl)
theorem dX3_finish_84 : decode cX3_finish 84 = .ok (.aload_n 0, 1) := dk_42 (dk_at dksX3_finish_3 16 rfl rfl)
theorem dX3_finish_85 : decode cX3_finish 85 = .ok (.getfield 23, 3) := dk_180 0 23 (dk_at dksX3_finish_3 17 rfl rfl)
theorem dX3_finish_88 : decode cX3_finish 88 = .ok (.getfield 159, 3) := dk_180 0 159 (dk_at dksX3_finish_3 20 rfl rfl)
theorem dX3_finish_91 : decode cX3_finish 91 = .ok (.iload 6, 2) := dk_21 6 (dk_at dksX3_finish_4 0 rfl rfl)
theorem dX3_finish_93 : decode cX3_finish 93 = .ok (.iaload, 1) := dk_46 (dk_at dksX3_finish_4 2 rfl rfl)
theorem dX3_finish_94 : decode cX3_finish 94 = .ok (.aload_n 3, 1) := dk_45 (dk_at dksX3_finish_4 3 rfl rfl)
theorem dX3_finish_95 : decode cX3_finish 95 = .ok (.iload 4, 2) := dk_21 4 (dk_at dksX3_finish_4 4 rfl rfl)
theorem dX3_finish_97 : decode cX3_finish 97 = .ok (.iload 6, 2) := dk_21 6 (dk_at dksX3_finish_4 6 rfl rfl)
theorem dX3_finish_99 : decode cX3_finish 99 = .ok (.isub, 1) := dk_100 (dk_at dksX3_finish_4 8 rfl rfl)
theorem dX3_finish_100 : decode cX3_finish 100 = .ok (.iaload, 1) := dk_46 (dk_at dksX3_finish_4 9 rfl rfl)
theorem dX3_finish_101 : decode cX3_finish 101 = .ok (.imul, 1) := dk_104 (dk_at dksX3_finish_4 10 rfl rfl)
theorem dX3_finish_102 : decode cX3_finish 102 = .ok (.iadd, 1) := dk_96 (dk_at dksX3_finish_4 11 rfl rfl)
theorem dX3_finish_103 : decode cX3_finish 103 = .ok (.istore 5, 2) := dk_54 5 (dk_at dksX3_finish_4 12 rfl rfl)
theorem dX3_finish_105 : decode cX3_finish 105 = .ok (.iinc 6 1, 3) := dk_132 6 1 (dk_at dksX3_finish_4 14 rfl rfl)
theorem dX3_finish_108 : decode cX3_finish 108 = .ok (.goto (-46), 3) := dk_167 255 210 (dk_at dksX3_finish_4 17 rfl rfl)
theorem dX3_finish_111 : decode cX3_finish 111 = .ok (.aload_n 3, 1) := dk_45 (dk_at dksX3_finish_4 20 rfl rfl)
theorem dX3_finish_112 : decode cX3_finish 112 = .ok (.iload 4, 2) := dk_21 4 (dk_at dksX3_finish_4 21 rfl rfl)
theorem dX3_finish_114 : decode cX3_finish 114 = .ok (.aload_n 0, 1) := dk_42 (dk_at dksX3_finish_4 23 rfl rfl)
theorem dX3_finish_115 : decode cX3_finish 115 = .ok (.getfield 23, 3) := dk_180 0 23 (dk_at dksX3_finish_5 0 rfl rfl)
theorem dX3_finish_118 : decode cX3_finish 118 = .ok (.getfield 162, 3) := dk_180 0 162 (dk_at dksX3_finish_5 3 rfl rfl)
theorem dX3_finish_121 : decode cX3_finish 121 = .ok (.ineg, 1) := dk_116 (dk_at dksX3_finish_5 6 rfl rfl)
theorem dX3_finish_122 : decode cX3_finish 122 = .ok (.aload_n 0, 1) := dk_42 (dk_at dksX3_finish_5 7 rfl rfl)
theorem dX3_finish_123 : decode cX3_finish 123 = .ok (.getfield 23, 3) := dk_180 0 23 (dk_at dksX3_finish_5 8 rfl rfl)
theorem dX3_finish_126 : decode cX3_finish 126 = .ok (.getfield 162, 3) := dk_180 0 162 (dk_at dksX3_finish_5 11 rfl rfl)
theorem dX3_finish_129 : decode cX3_finish 129 = .ok (.iload_n 2, 1) := dk_28 (dk_at dksX3_finish_5 14 rfl rfl)
theorem dX3_finish_130 : decode cX3_finish 130 = .ok (.iload 5, 2) := dk_21 5 (dk_at dksX3_finish_5 15 rfl rfl)
theorem dX3_finish_132 : decode cX3_finish 132 = .ok (.imul, 1) := dk_104 (dk_at dksX3_finish_5 17 rfl rfl)
theorem dX3_finish_133 : decode cX3_finish 133 = .ok (.invokestatic 165, 3) := dk_184 0 165 (dk_at dksX3_finish_5 18 rfl rfl)
theorem dX3_finish_136 : decode cX3_finish 136 = .ok (.invokestatic 171, 3) := dk_184 0 171 (dk_at dksX3_finish_5 21 rfl rfl)
theorem dX3_finish_139 : decode cX3_finish 139 = .ok (.iastore, 1) := dk_79 (dk_at dksX3_finish_6 0 rfl rfl)
theorem dX3_finish_140 : decode cX3_finish 140 = .ok (.iinc 4 (-1), 3) := dk_132 4 255 (dk_at dksX3_finish_6 1 rfl rfl)
theorem dX3_finish_143 : decode cX3_finish 143 = .ok (.goto (-110), 3) := dk_167 255 146 (dk_at dksX3_finish_6 4 rfl rfl)
theorem dX3_finish_146 : decode cX3_finish 146 = .ok (.return_, 1) := dk_177 (dk_at dksX3_finish_6 7 rfl rfl)
abbrev cX3_isActive : ByteArray := prog_9_method_8_code
def yX3_isActive : MethodName := ⟨RX3, "isActive", "(I)Z"⟩
def dkwX3_isActive_0 : List UInt8 := [42, 180, 0, 14, 27, 182, 0, 174, 154, 0, 7, 4, 167, 0, 4, 3, 172]
abbrev dktX3_isActive_0 : List UInt8 := dkwX3_isActive_0 ++ []
theorem dksX3_isActive_0 : cX3_isActive.data.toList.drop 0 = dktX3_isActive_0 := by decide +kernel
theorem dX3_isActive_0 : decode cX3_isActive 0 = .ok (.aload_n 0, 1) := dk_42 (dk_at dksX3_isActive_0 0 rfl rfl)
theorem dX3_isActive_1 : decode cX3_isActive 1 = .ok (.getfield 14, 3) := dk_180 0 14 (dk_at dksX3_isActive_0 1 rfl rfl)
theorem dX3_isActive_4 : decode cX3_isActive 4 = .ok (.iload_n 1, 1) := dk_27 (dk_at dksX3_isActive_0 4 rfl rfl)
theorem dX3_isActive_5 : decode cX3_isActive 5 = .ok (.invokevirtual 174, 3) := dk_182 0 174 (dk_at dksX3_isActive_0 5 rfl rfl)
theorem dX3_isActive_8 : decode cX3_isActive 8 = .ok (.ifCond .ne 7, 3) := dk_154 0 7 (dk_at dksX3_isActive_0 8 rfl rfl)
theorem dX3_isActive_11 : decode cX3_isActive 11 = .ok (.iconst 1, 1) := dk_4 (dk_at dksX3_isActive_0 11 rfl rfl)
theorem dX3_isActive_12 : decode cX3_isActive 12 = .ok (.goto 4, 3) := dk_167 0 4 (dk_at dksX3_isActive_0 12 rfl rfl)
theorem dX3_isActive_15 : decode cX3_isActive 15 = .ok (.iconst 0, 1) := dk_3 (dk_at dksX3_isActive_0 15 rfl rfl)
theorem dX3_isActive_16 : decode cX3_isActive 16 = .ok (.ireturn, 1) := dk_172 (dk_at dksX3_isActive_0 16 rfl rfl)
abbrev cX3_spread : ByteArray := prog_9_method_11_code
def yX3_spread : MethodName := ⟨RX3, "spread", "(I)I"⟩
def dkwX3_spread_2 : List UInt8 := [167, 255, 220, 42, 27, 182, 0, 186, 28, 100, 172]
abbrev dktX3_spread_2 : List UInt8 := dkwX3_spread_2 ++ []
def dkwX3_spread_1 : List UInt8 := [153, 0, 19, 28, 42, 180, 0, 23, 180, 0, 183, 29, 50, 27, 46, 184, 0, 165, 61, 132, 3, 1]
abbrev dktX3_spread_1 : List UInt8 := dkwX3_spread_1 ++ dktX3_spread_2
def dkwX3_spread_0 : List UInt8 := [42, 27, 182, 0, 186, 61, 3, 62, 29, 42, 180, 0, 62, 190, 162, 0, 33, 42, 29, 182, 0, 180]
abbrev dktX3_spread_0 : List UInt8 := dkwX3_spread_0 ++ dktX3_spread_1
theorem dksX3_spread_0 : cX3_spread.data.toList.drop 0 = dktX3_spread_0 := by decide +kernel
theorem dksX3_spread_1 : cX3_spread.data.toList.drop 22 = dktX3_spread_1 := dk_seg dksX3_spread_0 22 rfl rfl
theorem dksX3_spread_2 : cX3_spread.data.toList.drop 44 = dktX3_spread_2 := dk_seg dksX3_spread_1 22 rfl rfl
theorem dX3_spread_0 : decode cX3_spread 0 = .ok (.aload_n 0, 1) := dk_42 (dk_at dksX3_spread_0 0 rfl rfl)
theorem dX3_spread_1 : decode cX3_spread 1 = .ok (.iload_n 1, 1) := dk_27 (dk_at dksX3_spread_0 1 rfl rfl)
theorem dX3_spread_2 : decode cX3_spread 2 = .ok (.invokevirtual 186, 3) := dk_182 0 186 (dk_at dksX3_spread_0 2 rfl rfl)
theorem dX3_spread_5 : decode cX3_spread 5 = .ok (.istore_n 2, 1) := dk_61 (dk_at dksX3_spread_0 5 rfl rfl)
theorem dX3_spread_6 : decode cX3_spread 6 = .ok (.iconst 0, 1) := dk_3 (dk_at dksX3_spread_0 6 rfl rfl)
theorem dX3_spread_7 : decode cX3_spread 7 = .ok (.istore_n 3, 1) := dk_62 (dk_at dksX3_spread_0 7 rfl rfl)
theorem dX3_spread_8 : decode cX3_spread 8 = .ok (.iload_n 3, 1) := dk_29 (dk_at dksX3_spread_0 8 rfl rfl)
theorem dX3_spread_9 : decode cX3_spread 9 = .ok (.aload_n 0, 1) := dk_42 (dk_at dksX3_spread_0 9 rfl rfl)
theorem dX3_spread_10 : decode cX3_spread 10 = .ok (.getfield 62, 3) := dk_180 0 62 (dk_at dksX3_spread_0 10 rfl rfl)
theorem dX3_spread_13 : decode cX3_spread 13 = .ok (.arraylength, 1) := dk_190 (dk_at dksX3_spread_0 13 rfl rfl)
theorem dX3_spread_14 : decode cX3_spread 14 = .ok (.if_icmp .ge 33, 3) := dk_162 0 33 (dk_at dksX3_spread_0 14 rfl rfl)
theorem dX3_spread_17 : decode cX3_spread 17 = .ok (.aload_n 0, 1) := dk_42 (dk_at dksX3_spread_0 17 rfl rfl)
theorem dX3_spread_18 : decode cX3_spread 18 = .ok (.iload_n 3, 1) := dk_29 (dk_at dksX3_spread_0 18 rfl rfl)
theorem dX3_spread_19 : decode cX3_spread 19 = .ok (.invokevirtual 180, 3) := dk_182 0 180 (dk_at dksX3_spread_0 19 rfl rfl)
theorem dX3_spread_22 : decode cX3_spread 22 = .ok (.ifCond .eq 19, 3) := dk_153 0 19 (dk_at dksX3_spread_1 0 rfl rfl)
theorem dX3_spread_25 : decode cX3_spread 25 = .ok (.iload_n 2, 1) := dk_28 (dk_at dksX3_spread_1 3 rfl rfl)
theorem dX3_spread_26 : decode cX3_spread 26 = .ok (.aload_n 0, 1) := dk_42 (dk_at dksX3_spread_1 4 rfl rfl)
theorem dX3_spread_27 : decode cX3_spread 27 = .ok (.getfield 23, 3) := dk_180 0 23 (dk_at dksX3_spread_1 5 rfl rfl)
theorem dX3_spread_30 : decode cX3_spread 30 = .ok (.getfield 183, 3) := dk_180 0 183 (dk_at dksX3_spread_1 8 rfl rfl)
theorem dX3_spread_33 : decode cX3_spread 33 = .ok (.iload_n 3, 1) := dk_29 (dk_at dksX3_spread_1 11 rfl rfl)
theorem dX3_spread_34 : decode cX3_spread 34 = .ok (.aaload, 1) := dk_50 (dk_at dksX3_spread_1 12 rfl rfl)
theorem dX3_spread_35 : decode cX3_spread 35 = .ok (.iload_n 1, 1) := dk_27 (dk_at dksX3_spread_1 13 rfl rfl)
theorem dX3_spread_36 : decode cX3_spread 36 = .ok (.iaload, 1) := dk_46 (dk_at dksX3_spread_1 14 rfl rfl)
theorem dX3_spread_37 : decode cX3_spread 37 = .ok (.invokestatic 165, 3) := dk_184 0 165 (dk_at dksX3_spread_1 15 rfl rfl)
theorem dX3_spread_40 : decode cX3_spread 40 = .ok (.istore_n 2, 1) := dk_61 (dk_at dksX3_spread_1 18 rfl rfl)
theorem dX3_spread_41 : decode cX3_spread 41 = .ok (.iinc 3 1, 3) := dk_132 3 1 (dk_at dksX3_spread_1 19 rfl rfl)
theorem dX3_spread_44 : decode cX3_spread 44 = .ok (.goto (-36), 3) := dk_167 255 220 (dk_at dksX3_spread_2 0 rfl rfl)
theorem dX3_spread_47 : decode cX3_spread 47 = .ok (.aload_n 0, 1) := dk_42 (dk_at dksX3_spread_2 3 rfl rfl)
theorem dX3_spread_48 : decode cX3_spread 48 = .ok (.iload_n 1, 1) := dk_27 (dk_at dksX3_spread_2 4 rfl rfl)
theorem dX3_spread_49 : decode cX3_spread 49 = .ok (.invokevirtual 186, 3) := dk_182 0 186 (dk_at dksX3_spread_2 5 rfl rfl)
theorem dX3_spread_52 : decode cX3_spread 52 = .ok (.iload_n 2, 1) := dk_28 (dk_at dksX3_spread_2 8 rfl rfl)
theorem dX3_spread_53 : decode cX3_spread 53 = .ok (.isub, 1) := dk_100 (dk_at dksX3_spread_2 9 rfl rfl)
theorem dX3_spread_54 : decode cX3_spread 54 = .ok (.ireturn, 1) := dk_172 (dk_at dksX3_spread_2 10 rfl rfl)
abbrev cX3_greatestDelay : ByteArray := prog_9_method_10_code
def yX3_greatestDelay : MethodName := ⟨RX3, "greatestDelay", "(I)I"⟩
def dkwX3_greatestDelay_1 : List UInt8 := [180, 0, 23, 180, 0, 183, 29, 50, 27, 46, 184, 0, 171, 61, 132, 3, 1, 167, 255, 220, 28, 172]
abbrev dktX3_greatestDelay_1 : List UInt8 := dkwX3_greatestDelay_1 ++ []
def dkwX3_greatestDelay_0 : List UInt8 := [3, 61, 3, 62, 29, 42, 180, 0, 62, 190, 162, 0, 33, 42, 29, 182, 0, 180, 153, 0, 19, 28, 42]
abbrev dktX3_greatestDelay_0 : List UInt8 := dkwX3_greatestDelay_0 ++ dktX3_greatestDelay_1
theorem dksX3_greatestDelay_0 : cX3_greatestDelay.data.toList.drop 0 = dktX3_greatestDelay_0 := by decide +kernel
theorem dksX3_greatestDelay_1 : cX3_greatestDelay.data.toList.drop 23 = dktX3_greatestDelay_1 := dk_seg dksX3_greatestDelay_0 23 rfl rfl
theorem dX3_greatestDelay_0 : decode cX3_greatestDelay 0 = .ok (.iconst 0, 1) := dk_3 (dk_at dksX3_greatestDelay_0 0 rfl rfl)
theorem dX3_greatestDelay_1 : decode cX3_greatestDelay 1 = .ok (.istore_n 2, 1) := dk_61 (dk_at dksX3_greatestDelay_0 1 rfl rfl)
theorem dX3_greatestDelay_2 : decode cX3_greatestDelay 2 = .ok (.iconst 0, 1) := dk_3 (dk_at dksX3_greatestDelay_0 2 rfl rfl)
theorem dX3_greatestDelay_3 : decode cX3_greatestDelay 3 = .ok (.istore_n 3, 1) := dk_62 (dk_at dksX3_greatestDelay_0 3 rfl rfl)
theorem dX3_greatestDelay_4 : decode cX3_greatestDelay 4 = .ok (.iload_n 3, 1) := dk_29 (dk_at dksX3_greatestDelay_0 4 rfl rfl)
theorem dX3_greatestDelay_5 : decode cX3_greatestDelay 5 = .ok (.aload_n 0, 1) := dk_42 (dk_at dksX3_greatestDelay_0 5 rfl rfl)
theorem dX3_greatestDelay_6 : decode cX3_greatestDelay 6 = .ok (.getfield 62, 3) := dk_180 0 62 (dk_at dksX3_greatestDelay_0 6 rfl rfl)
theorem dX3_greatestDelay_9 : decode cX3_greatestDelay 9 = .ok (.arraylength, 1) := dk_190 (dk_at dksX3_greatestDelay_0 9 rfl rfl)
theorem dX3_greatestDelay_10 : decode cX3_greatestDelay 10 = .ok (.if_icmp .ge 33, 3) := dk_162 0 33 (dk_at dksX3_greatestDelay_0 10 rfl rfl)
theorem dX3_greatestDelay_13 : decode cX3_greatestDelay 13 = .ok (.aload_n 0, 1) := dk_42 (dk_at dksX3_greatestDelay_0 13 rfl rfl)
theorem dX3_greatestDelay_14 : decode cX3_greatestDelay 14 = .ok (.iload_n 3, 1) := dk_29 (dk_at dksX3_greatestDelay_0 14 rfl rfl)
theorem dX3_greatestDelay_15 : decode cX3_greatestDelay 15 = .ok (.invokevirtual 180, 3) := dk_182 0 180 (dk_at dksX3_greatestDelay_0 15 rfl rfl)
theorem dX3_greatestDelay_18 : decode cX3_greatestDelay 18 = .ok (.ifCond .eq 19, 3) := dk_153 0 19 (dk_at dksX3_greatestDelay_0 18 rfl rfl)
theorem dX3_greatestDelay_21 : decode cX3_greatestDelay 21 = .ok (.iload_n 2, 1) := dk_28 (dk_at dksX3_greatestDelay_0 21 rfl rfl)
theorem dX3_greatestDelay_22 : decode cX3_greatestDelay 22 = .ok (.aload_n 0, 1) := dk_42 (dk_at dksX3_greatestDelay_0 22 rfl rfl)
theorem dX3_greatestDelay_23 : decode cX3_greatestDelay 23 = .ok (.getfield 23, 3) := dk_180 0 23 (dk_at dksX3_greatestDelay_1 0 rfl rfl)
theorem dX3_greatestDelay_26 : decode cX3_greatestDelay 26 = .ok (.getfield 183, 3) := dk_180 0 183 (dk_at dksX3_greatestDelay_1 3 rfl rfl)
theorem dX3_greatestDelay_29 : decode cX3_greatestDelay 29 = .ok (.iload_n 3, 1) := dk_29 (dk_at dksX3_greatestDelay_1 6 rfl rfl)
theorem dX3_greatestDelay_30 : decode cX3_greatestDelay 30 = .ok (.aaload, 1) := dk_50 (dk_at dksX3_greatestDelay_1 7 rfl rfl)
theorem dX3_greatestDelay_31 : decode cX3_greatestDelay 31 = .ok (.iload_n 1, 1) := dk_27 (dk_at dksX3_greatestDelay_1 8 rfl rfl)
theorem dX3_greatestDelay_32 : decode cX3_greatestDelay 32 = .ok (.iaload, 1) := dk_46 (dk_at dksX3_greatestDelay_1 9 rfl rfl)
theorem dX3_greatestDelay_33 : decode cX3_greatestDelay 33 = .ok (.invokestatic 171, 3) := dk_184 0 171 (dk_at dksX3_greatestDelay_1 10 rfl rfl)
theorem dX3_greatestDelay_36 : decode cX3_greatestDelay 36 = .ok (.istore_n 2, 1) := dk_61 (dk_at dksX3_greatestDelay_1 13 rfl rfl)
theorem dX3_greatestDelay_37 : decode cX3_greatestDelay 37 = .ok (.iinc 3 1, 3) := dk_132 3 1 (dk_at dksX3_greatestDelay_1 14 rfl rfl)
theorem dX3_greatestDelay_40 : decode cX3_greatestDelay 40 = .ok (.goto (-36), 3) := dk_167 255 220 (dk_at dksX3_greatestDelay_1 17 rfl rfl)
theorem dX3_greatestDelay_43 : decode cX3_greatestDelay 43 = .ok (.iload_n 2, 1) := dk_28 (dk_at dksX3_greatestDelay_1 20 rfl rfl)
theorem dX3_greatestDelay_44 : decode cX3_greatestDelay 44 = .ok (.ireturn, 1) := dk_172 (dk_at dksX3_greatestDelay_1 21 rfl rfl)
abbrev cX3_window : ByteArray := prog_9_method_12_code
def yX3_window : MethodName := ⟨RX3, "window", "(I)I"⟩
def dkwX3_window_0 : List UInt8 := [3, 42, 180, 0, 23, 180, 0, 69, 42, 27, 182, 0, 186, 100, 184, 0, 171, 172]
abbrev dktX3_window_0 : List UInt8 := dkwX3_window_0 ++ []
theorem dksX3_window_0 : cX3_window.data.toList.drop 0 = dktX3_window_0 := by decide +kernel
theorem dX3_window_0 : decode cX3_window 0 = .ok (.iconst 0, 1) := dk_3 (dk_at dksX3_window_0 0 rfl rfl)
theorem dX3_window_1 : decode cX3_window 1 = .ok (.aload_n 0, 1) := dk_42 (dk_at dksX3_window_0 1 rfl rfl)
theorem dX3_window_2 : decode cX3_window 2 = .ok (.getfield 23, 3) := dk_180 0 23 (dk_at dksX3_window_0 2 rfl rfl)
theorem dX3_window_5 : decode cX3_window 5 = .ok (.getfield 69, 3) := dk_180 0 69 (dk_at dksX3_window_0 5 rfl rfl)
theorem dX3_window_8 : decode cX3_window 8 = .ok (.aload_n 0, 1) := dk_42 (dk_at dksX3_window_0 8 rfl rfl)
theorem dX3_window_9 : decode cX3_window 9 = .ok (.iload_n 1, 1) := dk_27 (dk_at dksX3_window_0 9 rfl rfl)
theorem dX3_window_10 : decode cX3_window 10 = .ok (.invokevirtual 186, 3) := dk_182 0 186 (dk_at dksX3_window_0 10 rfl rfl)
theorem dX3_window_13 : decode cX3_window 13 = .ok (.isub, 1) := dk_100 (dk_at dksX3_window_0 13 rfl rfl)
theorem dX3_window_14 : decode cX3_window 14 = .ok (.invokestatic 171, 3) := dk_184 0 171 (dk_at dksX3_window_0 14 rfl rfl)
theorem dX3_window_17 : decode cX3_window 17 = .ok (.ireturn, 1) := dk_172 (dk_at dksX3_window_0 17 rfl rfl)
abbrev cX3_beam : ByteArray := prog_9_method_13_code
def yX3_beam : MethodName := ⟨RX3, "beam", "(II)I"⟩
def dkwX3_beam_2 : List UInt8 := [21, 4, 50, 27, 46, 96, 46, 104, 96, 62, 132, 4, 1, 167, 255, 201, 29, 172]
abbrev dktX3_beam_2 : List UInt8 := dkwX3_beam_2 ++ []
def dkwX3_beam_1 : List UInt8 := [29, 42, 180, 0, 62, 21, 4, 46, 42, 180, 0, 75, 21, 4, 50, 28, 42, 180, 0, 23, 180, 0, 183]
abbrev dktX3_beam_1 : List UInt8 := dkwX3_beam_1 ++ dktX3_beam_2
def dkwX3_beam_0 : List UInt8 := [3, 62, 3, 54, 4, 21, 4, 42, 180, 0, 62, 190, 162, 0, 51, 42, 21, 4, 182, 0, 180, 153, 0, 36]
abbrev dktX3_beam_0 : List UInt8 := dkwX3_beam_0 ++ dktX3_beam_1
theorem dksX3_beam_0 : cX3_beam.data.toList.drop 0 = dktX3_beam_0 := by decide +kernel
theorem dksX3_beam_1 : cX3_beam.data.toList.drop 24 = dktX3_beam_1 := dk_seg dksX3_beam_0 24 rfl rfl
theorem dksX3_beam_2 : cX3_beam.data.toList.drop 47 = dktX3_beam_2 := dk_seg dksX3_beam_1 23 rfl rfl
theorem dX3_beam_0 : decode cX3_beam 0 = .ok (.iconst 0, 1) := dk_3 (dk_at dksX3_beam_0 0 rfl rfl)
theorem dX3_beam_1 : decode cX3_beam 1 = .ok (.istore_n 3, 1) := dk_62 (dk_at dksX3_beam_0 1 rfl rfl)
theorem dX3_beam_2 : decode cX3_beam 2 = .ok (.iconst 0, 1) := dk_3 (dk_at dksX3_beam_0 2 rfl rfl)
theorem dX3_beam_3 : decode cX3_beam 3 = .ok (.istore 4, 2) := dk_54 4 (dk_at dksX3_beam_0 3 rfl rfl)
theorem dX3_beam_5 : decode cX3_beam 5 = .ok (.iload 4, 2) := dk_21 4 (dk_at dksX3_beam_0 5 rfl rfl)
theorem dX3_beam_7 : decode cX3_beam 7 = .ok (.aload_n 0, 1) := dk_42 (dk_at dksX3_beam_0 7 rfl rfl)
theorem dX3_beam_8 : decode cX3_beam 8 = .ok (.getfield 62, 3) := dk_180 0 62 (dk_at dksX3_beam_0 8 rfl rfl)
theorem dX3_beam_11 : decode cX3_beam 11 = .ok (.arraylength, 1) := dk_190 (dk_at dksX3_beam_0 11 rfl rfl)
theorem dX3_beam_12 : decode cX3_beam 12 = .ok (.if_icmp .ge 51, 3) := dk_162 0 51 (dk_at dksX3_beam_0 12 rfl rfl)
theorem dX3_beam_15 : decode cX3_beam 15 = .ok (.aload_n 0, 1) := dk_42 (dk_at dksX3_beam_0 15 rfl rfl)
theorem dX3_beam_16 : decode cX3_beam 16 = .ok (.iload 4, 2) := dk_21 4 (dk_at dksX3_beam_0 16 rfl rfl)
theorem dX3_beam_18 : decode cX3_beam 18 = .ok (.invokevirtual 180, 3) := dk_182 0 180 (dk_at dksX3_beam_0 18 rfl rfl)
theorem dX3_beam_21 : decode cX3_beam 21 = .ok (.ifCond .eq 36, 3) := dk_153 0 36 (dk_at dksX3_beam_0 21 rfl rfl)
theorem dX3_beam_24 : decode cX3_beam 24 = .ok (.iload_n 3, 1) := dk_29 (dk_at dksX3_beam_1 0 rfl rfl)
theorem dX3_beam_25 : decode cX3_beam 25 = .ok (.aload_n 0, 1) := dk_42 (dk_at dksX3_beam_1 1 rfl rfl)
theorem dX3_beam_26 : decode cX3_beam 26 = .ok (.getfield 62, 3) := dk_180 0 62 (dk_at dksX3_beam_1 2 rfl rfl)
theorem dX3_beam_29 : decode cX3_beam 29 = .ok (.iload 4, 2) := dk_21 4 (dk_at dksX3_beam_1 5 rfl rfl)
theorem dX3_beam_31 : decode cX3_beam 31 = .ok (.iaload, 1) := dk_46 (dk_at dksX3_beam_1 7 rfl rfl)
theorem dX3_beam_32 : decode cX3_beam 32 = .ok (.aload_n 0, 1) := dk_42 (dk_at dksX3_beam_1 8 rfl rfl)
theorem dX3_beam_33 : decode cX3_beam 33 = .ok (.getfield 75, 3) := dk_180 0 75 (dk_at dksX3_beam_1 9 rfl rfl)
theorem dX3_beam_36 : decode cX3_beam 36 = .ok (.iload 4, 2) := dk_21 4 (dk_at dksX3_beam_1 12 rfl rfl)
theorem dX3_beam_38 : decode cX3_beam 38 = .ok (.aaload, 1) := dk_50 (dk_at dksX3_beam_1 14 rfl rfl)
theorem dX3_beam_39 : decode cX3_beam 39 = .ok (.iload_n 2, 1) := dk_28 (dk_at dksX3_beam_1 15 rfl rfl)
theorem dX3_beam_40 : decode cX3_beam 40 = .ok (.aload_n 0, 1) := dk_42 (dk_at dksX3_beam_1 16 rfl rfl)
theorem dX3_beam_41 : decode cX3_beam 41 = .ok (.getfield 23, 3) := dk_180 0 23 (dk_at dksX3_beam_1 17 rfl rfl)
theorem dX3_beam_44 : decode cX3_beam 44 = .ok (.getfield 183, 3) := dk_180 0 183 (dk_at dksX3_beam_1 20 rfl rfl)
theorem dX3_beam_47 : decode cX3_beam 47 = .ok (.iload 4, 2) := dk_21 4 (dk_at dksX3_beam_2 0 rfl rfl)
theorem dX3_beam_49 : decode cX3_beam 49 = .ok (.aaload, 1) := dk_50 (dk_at dksX3_beam_2 2 rfl rfl)
theorem dX3_beam_50 : decode cX3_beam 50 = .ok (.iload_n 1, 1) := dk_27 (dk_at dksX3_beam_2 3 rfl rfl)
theorem dX3_beam_51 : decode cX3_beam 51 = .ok (.iaload, 1) := dk_46 (dk_at dksX3_beam_2 4 rfl rfl)
theorem dX3_beam_52 : decode cX3_beam 52 = .ok (.iadd, 1) := dk_96 (dk_at dksX3_beam_2 5 rfl rfl)
theorem dX3_beam_53 : decode cX3_beam 53 = .ok (.iaload, 1) := dk_46 (dk_at dksX3_beam_2 6 rfl rfl)
theorem dX3_beam_54 : decode cX3_beam 54 = .ok (.imul, 1) := dk_104 (dk_at dksX3_beam_2 7 rfl rfl)
theorem dX3_beam_55 : decode cX3_beam 55 = .ok (.iadd, 1) := dk_96 (dk_at dksX3_beam_2 8 rfl rfl)
theorem dX3_beam_56 : decode cX3_beam 56 = .ok (.istore_n 3, 1) := dk_62 (dk_at dksX3_beam_2 9 rfl rfl)
theorem dX3_beam_57 : decode cX3_beam 57 = .ok (.iinc 4 1, 3) := dk_132 4 1 (dk_at dksX3_beam_2 10 rfl rfl)
theorem dX3_beam_60 : decode cX3_beam 60 = .ok (.goto (-55), 3) := dk_167 255 201 (dk_at dksX3_beam_2 13 rfl rfl)
theorem dX3_beam_63 : decode cX3_beam 63 = .ok (.iload_n 3, 1) := dk_29 (dk_at dksX3_beam_2 16 rfl rfl)
theorem dX3_beam_64 : decode cX3_beam 64 = .ok (.ireturn, 1) := dk_172 (dk_at dksX3_beam_2 17 rfl rfl)
abbrev cX3_powers : ByteArray := prog_9_method_16_code
def yX3_powers : MethodName := ⟨RX3, "powers", "()[J"⟩
def dkwX3_powers_2 : List UInt8 := [181, 0, 101, 43, 176]
abbrev dktX3_powers_2 : List UInt8 := dkwX3_powers_2 ++ []
def dkwX3_powers_1 : List UInt8 := [28, 43, 190, 162, 0, 17, 43, 28, 42, 28, 182, 0, 202, 80, 132, 2, 1, 167, 255, 239, 42, 43]
abbrev dktX3_powers_1 : List UInt8 := dkwX3_powers_1 ++ dktX3_powers_2
def dkwX3_powers_0 : List UInt8 := [42, 180, 0, 101, 198, 0, 8, 42, 180, 0, 101, 176, 42, 180, 0, 23, 182, 0, 199, 188, 11, 76, 3, 61]
abbrev dktX3_powers_0 : List UInt8 := dkwX3_powers_0 ++ dktX3_powers_1
theorem dksX3_powers_0 : cX3_powers.data.toList.drop 0 = dktX3_powers_0 := by decide +kernel
theorem dksX3_powers_1 : cX3_powers.data.toList.drop 24 = dktX3_powers_1 := dk_seg dksX3_powers_0 24 rfl rfl
theorem dksX3_powers_2 : cX3_powers.data.toList.drop 46 = dktX3_powers_2 := dk_seg dksX3_powers_1 22 rfl rfl
theorem dX3_powers_0 : decode cX3_powers 0 = .ok (.aload_n 0, 1) := dk_42 (dk_at dksX3_powers_0 0 rfl rfl)
theorem dX3_powers_1 : decode cX3_powers 1 = .ok (.getfield 101, 3) := dk_180 0 101 (dk_at dksX3_powers_0 1 rfl rfl)
theorem dX3_powers_4 : decode cX3_powers 4 = .ok (.ifnull 8, 3) := dk_198 0 8 (dk_at dksX3_powers_0 4 rfl rfl)
theorem dX3_powers_7 : decode cX3_powers 7 = .ok (.aload_n 0, 1) := dk_42 (dk_at dksX3_powers_0 7 rfl rfl)
theorem dX3_powers_8 : decode cX3_powers 8 = .ok (.getfield 101, 3) := dk_180 0 101 (dk_at dksX3_powers_0 8 rfl rfl)
theorem dX3_powers_11 : decode cX3_powers 11 = .ok (.areturn, 1) := dk_176 (dk_at dksX3_powers_0 11 rfl rfl)
theorem dX3_powers_12 : decode cX3_powers 12 = .ok (.aload_n 0, 1) := dk_42 (dk_at dksX3_powers_0 12 rfl rfl)
theorem dX3_powers_13 : decode cX3_powers 13 = .ok (.getfield 23, 3) := dk_180 0 23 (dk_at dksX3_powers_0 13 rfl rfl)
theorem dX3_powers_16 : decode cX3_powers 16 = .ok (.invokevirtual 199, 3) := dk_182 0 199 (dk_at dksX3_powers_0 16 rfl rfl)
theorem dX3_powers_19 : decode cX3_powers 19 = .ok (.newarray .long, 2) := dk_188_11 (dk_at dksX3_powers_0 19 rfl rfl)
theorem dX3_powers_21 : decode cX3_powers 21 = .ok (.astore_n 1, 1) := dk_76 (dk_at dksX3_powers_0 21 rfl rfl)
theorem dX3_powers_22 : decode cX3_powers 22 = .ok (.iconst 0, 1) := dk_3 (dk_at dksX3_powers_0 22 rfl rfl)
theorem dX3_powers_23 : decode cX3_powers 23 = .ok (.istore_n 2, 1) := dk_61 (dk_at dksX3_powers_0 23 rfl rfl)
theorem dX3_powers_24 : decode cX3_powers 24 = .ok (.iload_n 2, 1) := dk_28 (dk_at dksX3_powers_1 0 rfl rfl)
theorem dX3_powers_25 : decode cX3_powers 25 = .ok (.aload_n 1, 1) := dk_43 (dk_at dksX3_powers_1 1 rfl rfl)
theorem dX3_powers_26 : decode cX3_powers 26 = .ok (.arraylength, 1) := dk_190 (dk_at dksX3_powers_1 2 rfl rfl)
theorem dX3_powers_27 : decode cX3_powers 27 = .ok (.if_icmp .ge 17, 3) := dk_162 0 17 (dk_at dksX3_powers_1 3 rfl rfl)
theorem dX3_powers_30 : decode cX3_powers 30 = .ok (.aload_n 1, 1) := dk_43 (dk_at dksX3_powers_1 6 rfl rfl)
theorem dX3_powers_31 : decode cX3_powers 31 = .ok (.iload_n 2, 1) := dk_28 (dk_at dksX3_powers_1 7 rfl rfl)
theorem dX3_powers_32 : decode cX3_powers 32 = .ok (.aload_n 0, 1) := dk_42 (dk_at dksX3_powers_1 8 rfl rfl)
theorem dX3_powers_33 : decode cX3_powers 33 = .ok (.iload_n 2, 1) := dk_28 (dk_at dksX3_powers_1 9 rfl rfl)
theorem dX3_powers_34 : decode cX3_powers 34 = .ok (.invokevirtual 202, 3) := dk_182 0 202 (dk_at dksX3_powers_1 10 rfl rfl)
theorem dX3_powers_37 : decode cX3_powers 37 = .ok (.lastore, 1) := dk_80 (dk_at dksX3_powers_1 13 rfl rfl)
theorem dX3_powers_38 : decode cX3_powers 38 = .ok (.iinc 2 1, 3) := dk_132 2 1 (dk_at dksX3_powers_1 14 rfl rfl)
theorem dX3_powers_41 : decode cX3_powers 41 = .ok (.goto (-17), 3) := dk_167 255 239 (dk_at dksX3_powers_1 17 rfl rfl)
theorem dX3_powers_44 : decode cX3_powers 44 = .ok (.aload_n 0, 1) := dk_42 (dk_at dksX3_powers_1 20 rfl rfl)
theorem dX3_powers_45 : decode cX3_powers 45 = .ok (.aload_n 1, 1) := dk_43 (dk_at dksX3_powers_1 21 rfl rfl)
theorem dX3_powers_46 : decode cX3_powers 46 = .ok (.putfield 101, 3) := dk_181 0 101 (dk_at dksX3_powers_2 0 rfl rfl)
theorem dX3_powers_49 : decode cX3_powers 49 = .ok (.aload_n 1, 1) := dk_43 (dk_at dksX3_powers_2 3 rfl rfl)
theorem dX3_powers_50 : decode cX3_powers 50 = .ok (.areturn, 1) := dk_176 (dk_at dksX3_powers_2 4 rfl rfl)
abbrev cX3_powerOf : ByteArray := prog_9_method_15_code
def yX3_powerOf : MethodName := ⟨RX3, "powerOf", "(I)J"⟩
def dkwX3_powerOf_1 : List UInt8 := [173]
abbrev dktX3_powerOf_1 : List UInt8 := dkwX3_powerOf_1 ++ []
def dkwX3_powerOf_0 : List UInt8 := [42, 27, 182, 0, 192, 61, 28, 154, 0, 7, 9, 167, 0, 13, 42, 27, 3, 28, 182, 0, 195, 28, 133, 109]
abbrev dktX3_powerOf_0 : List UInt8 := dkwX3_powerOf_0 ++ dktX3_powerOf_1
theorem dksX3_powerOf_0 : cX3_powerOf.data.toList.drop 0 = dktX3_powerOf_0 := by decide +kernel
theorem dksX3_powerOf_1 : cX3_powerOf.data.toList.drop 24 = dktX3_powerOf_1 := dk_seg dksX3_powerOf_0 24 rfl rfl
theorem dX3_powerOf_0 : decode cX3_powerOf 0 = .ok (.aload_n 0, 1) := dk_42 (dk_at dksX3_powerOf_0 0 rfl rfl)
theorem dX3_powerOf_1 : decode cX3_powerOf 1 = .ok (.iload_n 1, 1) := dk_27 (dk_at dksX3_powerOf_0 1 rfl rfl)
theorem dX3_powerOf_2 : decode cX3_powerOf 2 = .ok (.invokevirtual 192, 3) := dk_182 0 192 (dk_at dksX3_powerOf_0 2 rfl rfl)
theorem dX3_powerOf_5 : decode cX3_powerOf 5 = .ok (.istore_n 2, 1) := dk_61 (dk_at dksX3_powerOf_0 5 rfl rfl)
theorem dX3_powerOf_6 : decode cX3_powerOf 6 = .ok (.iload_n 2, 1) := dk_28 (dk_at dksX3_powerOf_0 6 rfl rfl)
theorem dX3_powerOf_7 : decode cX3_powerOf 7 = .ok (.ifCond .ne 7, 3) := dk_154 0 7 (dk_at dksX3_powerOf_0 7 rfl rfl)
theorem dX3_powerOf_10 : decode cX3_powerOf 10 = .ok (.lconst 0, 1) := dk_9 (dk_at dksX3_powerOf_0 10 rfl rfl)
theorem dX3_powerOf_11 : decode cX3_powerOf 11 = .ok (.goto 13, 3) := dk_167 0 13 (dk_at dksX3_powerOf_0 11 rfl rfl)
theorem dX3_powerOf_14 : decode cX3_powerOf 14 = .ok (.aload_n 0, 1) := dk_42 (dk_at dksX3_powerOf_0 14 rfl rfl)
theorem dX3_powerOf_15 : decode cX3_powerOf 15 = .ok (.iload_n 1, 1) := dk_27 (dk_at dksX3_powerOf_0 15 rfl rfl)
theorem dX3_powerOf_16 : decode cX3_powerOf 16 = .ok (.iconst 0, 1) := dk_3 (dk_at dksX3_powerOf_0 16 rfl rfl)
theorem dX3_powerOf_17 : decode cX3_powerOf 17 = .ok (.iload_n 2, 1) := dk_28 (dk_at dksX3_powerOf_0 17 rfl rfl)
theorem dX3_powerOf_18 : decode cX3_powerOf 18 = .ok (.invokevirtual 195, 3) := dk_182 0 195 (dk_at dksX3_powerOf_0 18 rfl rfl)
theorem dX3_powerOf_21 : decode cX3_powerOf 21 = .ok (.iload_n 2, 1) := dk_28 (dk_at dksX3_powerOf_0 21 rfl rfl)
theorem dX3_powerOf_22 : decode cX3_powerOf 22 = .ok (.i2l, 1) := dk_133 (dk_at dksX3_powerOf_0 22 rfl rfl)
theorem dX3_powerOf_23 : decode cX3_powerOf 23 = .ok (.ldiv, 1) := dk_109 (dk_at dksX3_powerOf_0 23 rfl rfl)
theorem dX3_powerOf_24 : decode cX3_powerOf 24 = .ok (.lreturn, 1) := dk_173 (dk_at dksX3_powerOf_1 0 rfl rfl)
abbrev cX3_squares : ByteArray := prog_9_method_14_code
def yX3_squares : MethodName := ⟨RX3, "squares", "(III)J"⟩
def dkwX3_squares_1 : List UInt8 := [22, 7, 22, 7, 105, 97, 55, 4, 132, 6, 1, 167, 255, 227, 22, 4, 173]
abbrev dktX3_squares_1 : List UInt8 := dkwX3_squares_1 ++ []
def dkwX3_squares_0 : List UInt8 := [9, 55, 4, 28, 54, 6, 21, 6, 29, 162, 0, 29, 42, 27, 21, 6, 182, 0, 189, 133, 55, 7, 22, 4]
abbrev dktX3_squares_0 : List UInt8 := dkwX3_squares_0 ++ dktX3_squares_1
theorem dksX3_squares_0 : cX3_squares.data.toList.drop 0 = dktX3_squares_0 := by decide +kernel
theorem dksX3_squares_1 : cX3_squares.data.toList.drop 24 = dktX3_squares_1 := dk_seg dksX3_squares_0 24 rfl rfl
theorem dX3_squares_0 : decode cX3_squares 0 = .ok (.lconst 0, 1) := dk_9 (dk_at dksX3_squares_0 0 rfl rfl)
theorem dX3_squares_1 : decode cX3_squares 1 = .ok (.lstore 4, 2) := dk_55 4 (dk_at dksX3_squares_0 1 rfl rfl)
theorem dX3_squares_3 : decode cX3_squares 3 = .ok (.iload_n 2, 1) := dk_28 (dk_at dksX3_squares_0 3 rfl rfl)
theorem dX3_squares_4 : decode cX3_squares 4 = .ok (.istore 6, 2) := dk_54 6 (dk_at dksX3_squares_0 4 rfl rfl)
theorem dX3_squares_6 : decode cX3_squares 6 = .ok (.iload 6, 2) := dk_21 6 (dk_at dksX3_squares_0 6 rfl rfl)
theorem dX3_squares_8 : decode cX3_squares 8 = .ok (.iload_n 3, 1) := dk_29 (dk_at dksX3_squares_0 8 rfl rfl)
theorem dX3_squares_9 : decode cX3_squares 9 = .ok (.if_icmp .ge 29, 3) := dk_162 0 29 (dk_at dksX3_squares_0 9 rfl rfl)
theorem dX3_squares_12 : decode cX3_squares 12 = .ok (.aload_n 0, 1) := dk_42 (dk_at dksX3_squares_0 12 rfl rfl)
theorem dX3_squares_13 : decode cX3_squares 13 = .ok (.iload_n 1, 1) := dk_27 (dk_at dksX3_squares_0 13 rfl rfl)
theorem dX3_squares_14 : decode cX3_squares 14 = .ok (.iload 6, 2) := dk_21 6 (dk_at dksX3_squares_0 14 rfl rfl)
theorem dX3_squares_16 : decode cX3_squares 16 = .ok (.invokevirtual 189, 3) := dk_182 0 189 (dk_at dksX3_squares_0 16 rfl rfl)
theorem dX3_squares_19 : decode cX3_squares 19 = .ok (.i2l, 1) := dk_133 (dk_at dksX3_squares_0 19 rfl rfl)
theorem dX3_squares_20 : decode cX3_squares 20 = .ok (.lstore 7, 2) := dk_55 7 (dk_at dksX3_squares_0 20 rfl rfl)
theorem dX3_squares_22 : decode cX3_squares 22 = .ok (.lload 4, 2) := dk_22 4 (dk_at dksX3_squares_0 22 rfl rfl)
theorem dX3_squares_24 : decode cX3_squares 24 = .ok (.lload 7, 2) := dk_22 7 (dk_at dksX3_squares_1 0 rfl rfl)
theorem dX3_squares_26 : decode cX3_squares 26 = .ok (.lload 7, 2) := dk_22 7 (dk_at dksX3_squares_1 2 rfl rfl)
theorem dX3_squares_28 : decode cX3_squares 28 = .ok (.lmul, 1) := dk_105 (dk_at dksX3_squares_1 4 rfl rfl)
theorem dX3_squares_29 : decode cX3_squares 29 = .ok (.ladd, 1) := dk_97 (dk_at dksX3_squares_1 5 rfl rfl)
theorem dX3_squares_30 : decode cX3_squares 30 = .ok (.lstore 4, 2) := dk_55 4 (dk_at dksX3_squares_1 6 rfl rfl)
theorem dX3_squares_32 : decode cX3_squares 32 = .ok (.iinc 6 1, 3) := dk_132 6 1 (dk_at dksX3_squares_1 8 rfl rfl)
theorem dX3_squares_35 : decode cX3_squares 35 = .ok (.goto (-29), 3) := dk_167 255 227 (dk_at dksX3_squares_1 11 rfl rfl)
theorem dX3_squares_38 : decode cX3_squares 38 = .ok (.lload 4, 2) := dk_22 4 (dk_at dksX3_squares_1 14 rfl rfl)
theorem dX3_squares_40 : decode cX3_squares 40 = .ok (.lreturn, 1) := dk_173 (dk_at dksX3_squares_1 16 rfl rfl)
abbrev cX3_powerAt : ByteArray := prog_9_method_19_code
def yX3_powerAt : MethodName := ⟨RX3, "powerAt", "(II)J"⟩
def dkwX3_powerAt_2 : List UInt8 := [28, 3, 3, 3, 42, 180, 0, 23, 180, 0, 69, 29, 100, 184, 0, 171, 182, 0, 217, 173]
abbrev dktX3_powerAt_2 : List UInt8 := dkwX3_powerAt_2 ++ []
def dkwX3_powerAt_1 : List UInt8 := [29, 42, 180, 0, 23, 21, 4, 27, 28, 182, 0, 116, 184, 0, 171, 62, 132, 4, 1, 167, 255, 218, 42, 27]
abbrev dktX3_powerAt_1 : List UInt8 := dkwX3_powerAt_1 ++ dktX3_powerAt_2
def dkwX3_powerAt_0 : List UInt8 := [3, 62, 3, 54, 4, 21, 4, 42, 180, 0, 62, 190, 162, 0, 34, 42, 21, 4, 182, 0, 180, 153, 0, 19]
abbrev dktX3_powerAt_0 : List UInt8 := dkwX3_powerAt_0 ++ dktX3_powerAt_1
theorem dksX3_powerAt_0 : cX3_powerAt.data.toList.drop 0 = dktX3_powerAt_0 := by decide +kernel
theorem dksX3_powerAt_1 : cX3_powerAt.data.toList.drop 24 = dktX3_powerAt_1 := dk_seg dksX3_powerAt_0 24 rfl rfl
theorem dksX3_powerAt_2 : cX3_powerAt.data.toList.drop 48 = dktX3_powerAt_2 := dk_seg dksX3_powerAt_1 24 rfl rfl
theorem dX3_powerAt_0 : decode cX3_powerAt 0 = .ok (.iconst 0, 1) := dk_3 (dk_at dksX3_powerAt_0 0 rfl rfl)
theorem dX3_powerAt_1 : decode cX3_powerAt 1 = .ok (.istore_n 3, 1) := dk_62 (dk_at dksX3_powerAt_0 1 rfl rfl)
theorem dX3_powerAt_2 : decode cX3_powerAt 2 = .ok (.iconst 0, 1) := dk_3 (dk_at dksX3_powerAt_0 2 rfl rfl)
theorem dX3_powerAt_3 : decode cX3_powerAt 3 = .ok (.istore 4, 2) := dk_54 4 (dk_at dksX3_powerAt_0 3 rfl rfl)
theorem dX3_powerAt_5 : decode cX3_powerAt 5 = .ok (.iload 4, 2) := dk_21 4 (dk_at dksX3_powerAt_0 5 rfl rfl)
theorem dX3_powerAt_7 : decode cX3_powerAt 7 = .ok (.aload_n 0, 1) := dk_42 (dk_at dksX3_powerAt_0 7 rfl rfl)
theorem dX3_powerAt_8 : decode cX3_powerAt 8 = .ok (.getfield 62, 3) := dk_180 0 62 (dk_at dksX3_powerAt_0 8 rfl rfl)
theorem dX3_powerAt_11 : decode cX3_powerAt 11 = .ok (.arraylength, 1) := dk_190 (dk_at dksX3_powerAt_0 11 rfl rfl)
theorem dX3_powerAt_12 : decode cX3_powerAt 12 = .ok (.if_icmp .ge 34, 3) := dk_162 0 34 (dk_at dksX3_powerAt_0 12 rfl rfl)
theorem dX3_powerAt_15 : decode cX3_powerAt 15 = .ok (.aload_n 0, 1) := dk_42 (dk_at dksX3_powerAt_0 15 rfl rfl)
theorem dX3_powerAt_16 : decode cX3_powerAt 16 = .ok (.iload 4, 2) := dk_21 4 (dk_at dksX3_powerAt_0 16 rfl rfl)
theorem dX3_powerAt_18 : decode cX3_powerAt 18 = .ok (.invokevirtual 180, 3) := dk_182 0 180 (dk_at dksX3_powerAt_0 18 rfl rfl)
theorem dX3_powerAt_21 : decode cX3_powerAt 21 = .ok (.ifCond .eq 19, 3) := dk_153 0 19 (dk_at dksX3_powerAt_0 21 rfl rfl)
theorem dX3_powerAt_24 : decode cX3_powerAt 24 = .ok (.iload_n 3, 1) := dk_29 (dk_at dksX3_powerAt_1 0 rfl rfl)
theorem dX3_powerAt_25 : decode cX3_powerAt 25 = .ok (.aload_n 0, 1) := dk_42 (dk_at dksX3_powerAt_1 1 rfl rfl)
theorem dX3_powerAt_26 : decode cX3_powerAt 26 = .ok (.getfield 23, 3) := dk_180 0 23 (dk_at dksX3_powerAt_1 2 rfl rfl)
theorem dX3_powerAt_29 : decode cX3_powerAt 29 = .ok (.iload 4, 2) := dk_21 4 (dk_at dksX3_powerAt_1 5 rfl rfl)
theorem dX3_powerAt_31 : decode cX3_powerAt 31 = .ok (.iload_n 1, 1) := dk_27 (dk_at dksX3_powerAt_1 7 rfl rfl)
theorem dX3_powerAt_32 : decode cX3_powerAt 32 = .ok (.iload_n 2, 1) := dk_28 (dk_at dksX3_powerAt_1 8 rfl rfl)
theorem dX3_powerAt_33 : decode cX3_powerAt 33 = .ok (.invokevirtual 116, 3) := dk_182 0 116 (dk_at dksX3_powerAt_1 9 rfl rfl)
theorem dX3_powerAt_36 : decode cX3_powerAt 36 = .ok (.invokestatic 171, 3) := dk_184 0 171 (dk_at dksX3_powerAt_1 12 rfl rfl)
theorem dX3_powerAt_39 : decode cX3_powerAt 39 = .ok (.istore_n 3, 1) := dk_62 (dk_at dksX3_powerAt_1 15 rfl rfl)
theorem dX3_powerAt_40 : decode cX3_powerAt 40 = .ok (.iinc 4 1, 3) := dk_132 4 1 (dk_at dksX3_powerAt_1 16 rfl rfl)
theorem dX3_powerAt_43 : decode cX3_powerAt 43 = .ok (.goto (-38), 3) := dk_167 255 218 (dk_at dksX3_powerAt_1 19 rfl rfl)
theorem dX3_powerAt_46 : decode cX3_powerAt 46 = .ok (.aload_n 0, 1) := dk_42 (dk_at dksX3_powerAt_1 22 rfl rfl)
theorem dX3_powerAt_47 : decode cX3_powerAt 47 = .ok (.iload_n 1, 1) := dk_27 (dk_at dksX3_powerAt_1 23 rfl rfl)
theorem dX3_powerAt_48 : decode cX3_powerAt 48 = .ok (.iload_n 2, 1) := dk_28 (dk_at dksX3_powerAt_2 0 rfl rfl)
theorem dX3_powerAt_49 : decode cX3_powerAt 49 = .ok (.iconst 0, 1) := dk_3 (dk_at dksX3_powerAt_2 1 rfl rfl)
theorem dX3_powerAt_50 : decode cX3_powerAt 50 = .ok (.iconst 0, 1) := dk_3 (dk_at dksX3_powerAt_2 2 rfl rfl)
theorem dX3_powerAt_51 : decode cX3_powerAt 51 = .ok (.iconst 0, 1) := dk_3 (dk_at dksX3_powerAt_2 3 rfl rfl)
theorem dX3_powerAt_52 : decode cX3_powerAt 52 = .ok (.aload_n 0, 1) := dk_42 (dk_at dksX3_powerAt_2 4 rfl rfl)
theorem dX3_powerAt_53 : decode cX3_powerAt 53 = .ok (.getfield 23, 3) := dk_180 0 23 (dk_at dksX3_powerAt_2 5 rfl rfl)
theorem dX3_powerAt_56 : decode cX3_powerAt 56 = .ok (.getfield 69, 3) := dk_180 0 69 (dk_at dksX3_powerAt_2 8 rfl rfl)
theorem dX3_powerAt_59 : decode cX3_powerAt 59 = .ok (.iload_n 3, 1) := dk_29 (dk_at dksX3_powerAt_2 11 rfl rfl)
theorem dX3_powerAt_60 : decode cX3_powerAt 60 = .ok (.isub, 1) := dk_100 (dk_at dksX3_powerAt_2 12 rfl rfl)
theorem dX3_powerAt_61 : decode cX3_powerAt 61 = .ok (.invokestatic 171, 3) := dk_184 0 171 (dk_at dksX3_powerAt_2 13 rfl rfl)
theorem dX3_powerAt_64 : decode cX3_powerAt 64 = .ok (.invokevirtual 217, 3) := dk_182 0 217 (dk_at dksX3_powerAt_2 16 rfl rfl)
theorem dX3_powerAt_67 : decode cX3_powerAt 67 = .ok (.lreturn, 1) := dk_173 (dk_at dksX3_powerAt_2 19 rfl rfl)
abbrev cX3_focused : ByteArray := prog_9_method_18_code
def yX3_focused : MethodName := ⟨RX3, "focused", "(IIIII)J"⟩
def dkwX3_focused_6 : List UInt8 := [154, 0, 7, 9, 167, 0, 9, 22, 6, 21, 5, 133, 109, 173]
abbrev dktX3_focused_6 : List UInt8 := dkwX3_focused_6 ++ []
def dkwX3_focused_5 : List UInt8 := [132, 11, 1, 167, 255, 158, 22, 6, 22, 9, 22, 9, 105, 97, 55, 6, 132, 8, 1, 167, 255, 129, 21, 5]
abbrev dktX3_focused_5 : List UInt8 := dkwX3_focused_5 ++ dktX3_focused_6
def dkwX3_focused_4 : List UInt8 := [21, 11, 46, 42, 180, 0, 75, 21, 11, 50, 21, 12, 46, 104, 133, 167, 0, 4, 9, 97, 55, 9]
abbrev dktX3_focused_4 : List UInt8 := dkwX3_focused_4 ++ dktX3_focused_5
def dkwX3_focused_3 : List UInt8 := [182, 0, 116, 96, 54, 12, 22, 9, 21, 12, 42, 180, 0, 23, 180, 0, 69, 162, 0, 25, 42, 180, 0, 62]
abbrev dktX3_focused_3 : List UInt8 := dkwX3_focused_3 ++ dktX3_focused_4
def dkwX3_focused_2 : List UInt8 := [180, 0, 23, 21, 11, 27, 29, 21, 8, 104, 16, 100, 108, 96, 28, 21, 4, 21, 8, 104, 16, 100, 108, 96]
abbrev dktX3_focused_2 : List UInt8 := dkwX3_focused_2 ++ dktX3_focused_3
def dkwX3_focused_1 : List UInt8 := [180, 0, 62, 190, 162, 0, 94, 42, 21, 11, 182, 0, 180, 154, 0, 6, 167, 0, 76, 21, 8, 42]
abbrev dktX3_focused_1 : List UInt8 := dkwX3_focused_1 ++ dktX3_focused_2
def dkwX3_focused_0 : List UInt8 := [9, 55, 6, 3, 54, 8, 21, 8, 21, 5, 162, 0, 126, 9, 55, 9, 3, 54, 11, 21, 11, 42]
abbrev dktX3_focused_0 : List UInt8 := dkwX3_focused_0 ++ dktX3_focused_1
theorem dksX3_focused_0 : cX3_focused.data.toList.drop 0 = dktX3_focused_0 := by decide +kernel
theorem dksX3_focused_1 : cX3_focused.data.toList.drop 22 = dktX3_focused_1 := dk_seg dksX3_focused_0 22 rfl rfl
theorem dksX3_focused_2 : cX3_focused.data.toList.drop 44 = dktX3_focused_2 := dk_seg dksX3_focused_1 22 rfl rfl
theorem dksX3_focused_3 : cX3_focused.data.toList.drop 68 = dktX3_focused_3 := dk_seg dksX3_focused_2 24 rfl rfl
theorem dksX3_focused_4 : cX3_focused.data.toList.drop 92 = dktX3_focused_4 := dk_seg dksX3_focused_3 24 rfl rfl
theorem dksX3_focused_5 : cX3_focused.data.toList.drop 114 = dktX3_focused_5 := dk_seg dksX3_focused_4 22 rfl rfl
theorem dksX3_focused_6 : cX3_focused.data.toList.drop 138 = dktX3_focused_6 := dk_seg dksX3_focused_5 24 rfl rfl
theorem dX3_focused_0 : decode cX3_focused 0 = .ok (.lconst 0, 1) := dk_9 (dk_at dksX3_focused_0 0 rfl rfl)
theorem dX3_focused_1 : decode cX3_focused 1 = .ok (.lstore 6, 2) := dk_55 6 (dk_at dksX3_focused_0 1 rfl rfl)
theorem dX3_focused_3 : decode cX3_focused 3 = .ok (.iconst 0, 1) := dk_3 (dk_at dksX3_focused_0 3 rfl rfl)
theorem dX3_focused_4 : decode cX3_focused 4 = .ok (.istore 8, 2) := dk_54 8 (dk_at dksX3_focused_0 4 rfl rfl)
theorem dX3_focused_6 : decode cX3_focused 6 = .ok (.iload 8, 2) := dk_21 8 (dk_at dksX3_focused_0 6 rfl rfl)
theorem dX3_focused_8 : decode cX3_focused 8 = .ok (.iload 5, 2) := dk_21 5 (dk_at dksX3_focused_0 8 rfl rfl)
theorem dX3_focused_10 : decode cX3_focused 10 = .ok (.if_icmp .ge 126, 3) := dk_162 0 126 (dk_at dksX3_focused_0 10 rfl rfl)
theorem dX3_focused_13 : decode cX3_focused 13 = .ok (.lconst 0, 1) := dk_9 (dk_at dksX3_focused_0 13 rfl rfl)
theorem dX3_focused_14 : decode cX3_focused 14 = .ok (.lstore 9, 2) := dk_55 9 (dk_at dksX3_focused_0 14 rfl rfl)
theorem dX3_focused_16 : decode cX3_focused 16 = .ok (.iconst 0, 1) := dk_3 (dk_at dksX3_focused_0 16 rfl rfl)
theorem dX3_focused_17 : decode cX3_focused 17 = .ok (.istore 11, 2) := dk_54 11 (dk_at dksX3_focused_0 17 rfl rfl)
theorem dX3_focused_19 : decode cX3_focused 19 = .ok (.iload 11, 2) := dk_21 11 (dk_at dksX3_focused_0 19 rfl rfl)
theorem dX3_focused_21 : decode cX3_focused 21 = .ok (.aload_n 0, 1) := dk_42 (dk_at dksX3_focused_0 21 rfl rfl)
theorem dX3_focused_22 : decode cX3_focused 22 = .ok (.getfield 62, 3) := dk_180 0 62 (dk_at dksX3_focused_1 0 rfl rfl)
theorem dX3_focused_25 : decode cX3_focused 25 = .ok (.arraylength, 1) := dk_190 (dk_at dksX3_focused_1 3 rfl rfl)
theorem dX3_focused_26 : decode cX3_focused 26 = .ok (.if_icmp .ge 94, 3) := dk_162 0 94 (dk_at dksX3_focused_1 4 rfl rfl)
theorem dX3_focused_29 : decode cX3_focused 29 = .ok (.aload_n 0, 1) := dk_42 (dk_at dksX3_focused_1 7 rfl rfl)
theorem dX3_focused_30 : decode cX3_focused 30 = .ok (.iload 11, 2) := dk_21 11 (dk_at dksX3_focused_1 8 rfl rfl)
theorem dX3_focused_32 : decode cX3_focused 32 = .ok (.invokevirtual 180, 3) := dk_182 0 180 (dk_at dksX3_focused_1 10 rfl rfl)
theorem dX3_focused_35 : decode cX3_focused 35 = .ok (.ifCond .ne 6, 3) := dk_154 0 6 (dk_at dksX3_focused_1 13 rfl rfl)
theorem dX3_focused_38 : decode cX3_focused 38 = .ok (.goto 76, 3) := dk_167 0 76 (dk_at dksX3_focused_1 16 rfl rfl)
theorem dX3_focused_41 : decode cX3_focused 41 = .ok (.iload 8, 2) := dk_21 8 (dk_at dksX3_focused_1 19 rfl rfl)
theorem dX3_focused_43 : decode cX3_focused 43 = .ok (.aload_n 0, 1) := dk_42 (dk_at dksX3_focused_1 21 rfl rfl)
theorem dX3_focused_44 : decode cX3_focused 44 = .ok (.getfield 23, 3) := dk_180 0 23 (dk_at dksX3_focused_2 0 rfl rfl)
theorem dX3_focused_47 : decode cX3_focused 47 = .ok (.iload 11, 2) := dk_21 11 (dk_at dksX3_focused_2 3 rfl rfl)
theorem dX3_focused_49 : decode cX3_focused 49 = .ok (.iload_n 1, 1) := dk_27 (dk_at dksX3_focused_2 5 rfl rfl)
theorem dX3_focused_50 : decode cX3_focused 50 = .ok (.iload_n 3, 1) := dk_29 (dk_at dksX3_focused_2 6 rfl rfl)
theorem dX3_focused_51 : decode cX3_focused 51 = .ok (.iload 8, 2) := dk_21 8 (dk_at dksX3_focused_2 7 rfl rfl)
theorem dX3_focused_53 : decode cX3_focused 53 = .ok (.imul, 1) := dk_104 (dk_at dksX3_focused_2 9 rfl rfl)
theorem dX3_focused_54 : decode cX3_focused 54 = .ok (.bipush 100, 2) := dk_16 100 (dk_at dksX3_focused_2 10 rfl rfl)
theorem dX3_focused_56 : decode cX3_focused 56 = .ok (.idiv, 1) := dk_108 (dk_at dksX3_focused_2 12 rfl rfl)
theorem dX3_focused_57 : decode cX3_focused 57 = .ok (.iadd, 1) := dk_96 (dk_at dksX3_focused_2 13 rfl rfl)
theorem dX3_focused_58 : decode cX3_focused 58 = .ok (.iload_n 2, 1) := dk_28 (dk_at dksX3_focused_2 14 rfl rfl)
theorem dX3_focused_59 : decode cX3_focused 59 = .ok (.iload 4, 2) := dk_21 4 (dk_at dksX3_focused_2 15 rfl rfl)
theorem dX3_focused_61 : decode cX3_focused 61 = .ok (.iload 8, 2) := dk_21 8 (dk_at dksX3_focused_2 17 rfl rfl)
theorem dX3_focused_63 : decode cX3_focused 63 = .ok (.imul, 1) := dk_104 (dk_at dksX3_focused_2 19 rfl rfl)
theorem dX3_focused_64 : decode cX3_focused 64 = .ok (.bipush 100, 2) := dk_16 100 (dk_at dksX3_focused_2 20 rfl rfl)
theorem dX3_focused_66 : decode cX3_focused 66 = .ok (.idiv, 1) := dk_108 (dk_at dksX3_focused_2 22 rfl rfl)
theorem dX3_focused_67 : decode cX3_focused 67 = .ok (.iadd, 1) := dk_96 (dk_at dksX3_focused_2 23 rfl rfl)
theorem dX3_focused_68 : decode cX3_focused 68 = .ok (.invokevirtual 116, 3) := dk_182 0 116 (dk_at dksX3_focused_3 0 rfl rfl)
theorem dX3_focused_71 : decode cX3_focused 71 = .ok (.iadd, 1) := dk_96 (dk_at dksX3_focused_3 3 rfl rfl)
theorem dX3_focused_72 : decode cX3_focused 72 = .ok (.istore 12, 2) := dk_54 12 (dk_at dksX3_focused_3 4 rfl rfl)
theorem dX3_focused_74 : decode cX3_focused 74 = .ok (.lload 9, 2) := dk_22 9 (dk_at dksX3_focused_3 6 rfl rfl)
theorem dX3_focused_76 : decode cX3_focused 76 = .ok (.iload 12, 2) := dk_21 12 (dk_at dksX3_focused_3 8 rfl rfl)
theorem dX3_focused_78 : decode cX3_focused 78 = .ok (.aload_n 0, 1) := dk_42 (dk_at dksX3_focused_3 10 rfl rfl)
theorem dX3_focused_79 : decode cX3_focused 79 = .ok (.getfield 23, 3) := dk_180 0 23 (dk_at dksX3_focused_3 11 rfl rfl)
theorem dX3_focused_82 : decode cX3_focused 82 = .ok (.getfield 69, 3) := dk_180 0 69 (dk_at dksX3_focused_3 14 rfl rfl)
theorem dX3_focused_85 : decode cX3_focused 85 = .ok (.if_icmp .ge 25, 3) := dk_162 0 25 (dk_at dksX3_focused_3 17 rfl rfl)
theorem dX3_focused_88 : decode cX3_focused 88 = .ok (.aload_n 0, 1) := dk_42 (dk_at dksX3_focused_3 20 rfl rfl)
theorem dX3_focused_89 : decode cX3_focused 89 = .ok (.getfield 62, 3) := dk_180 0 62 (dk_at dksX3_focused_3 21 rfl rfl)
theorem dX3_focused_92 : decode cX3_focused 92 = .ok (.iload 11, 2) := dk_21 11 (dk_at dksX3_focused_4 0 rfl rfl)
theorem dX3_focused_94 : decode cX3_focused 94 = .ok (.iaload, 1) := dk_46 (dk_at dksX3_focused_4 2 rfl rfl)
theorem dX3_focused_95 : decode cX3_focused 95 = .ok (.aload_n 0, 1) := dk_42 (dk_at dksX3_focused_4 3 rfl rfl)
theorem dX3_focused_96 : decode cX3_focused 96 = .ok (.getfield 75, 3) := dk_180 0 75 (dk_at dksX3_focused_4 4 rfl rfl)
theorem dX3_focused_99 : decode cX3_focused 99 = .ok (.iload 11, 2) := dk_21 11 (dk_at dksX3_focused_4 7 rfl rfl)
theorem dX3_focused_101 : decode cX3_focused 101 = .ok (.aaload, 1) := dk_50 (dk_at dksX3_focused_4 9 rfl rfl)
theorem dX3_focused_102 : decode cX3_focused 102 = .ok (.iload 12, 2) := dk_21 12 (dk_at dksX3_focused_4 10 rfl rfl)
theorem dX3_focused_104 : decode cX3_focused 104 = .ok (.iaload, 1) := dk_46 (dk_at dksX3_focused_4 12 rfl rfl)
theorem dX3_focused_105 : decode cX3_focused 105 = .ok (.imul, 1) := dk_104 (dk_at dksX3_focused_4 13 rfl rfl)
theorem dX3_focused_106 : decode cX3_focused 106 = .ok (.i2l, 1) := dk_133 (dk_at dksX3_focused_4 14 rfl rfl)
theorem dX3_focused_107 : decode cX3_focused 107 = .ok (.goto 4, 3) := dk_167 0 4 (dk_at dksX3_focused_4 15 rfl rfl)
theorem dX3_focused_110 : decode cX3_focused 110 = .ok (.lconst 0, 1) := dk_9 (dk_at dksX3_focused_4 18 rfl rfl)
theorem dX3_focused_111 : decode cX3_focused 111 = .ok (.ladd, 1) := dk_97 (dk_at dksX3_focused_4 19 rfl rfl)
theorem dX3_focused_112 : decode cX3_focused 112 = .ok (.lstore 9, 2) := dk_55 9 (dk_at dksX3_focused_4 20 rfl rfl)
theorem dX3_focused_114 : decode cX3_focused 114 = .ok (.iinc 11 1, 3) := dk_132 11 1 (dk_at dksX3_focused_5 0 rfl rfl)
theorem dX3_focused_117 : decode cX3_focused 117 = .ok (.goto (-98), 3) := dk_167 255 158 (dk_at dksX3_focused_5 3 rfl rfl)
theorem dX3_focused_120 : decode cX3_focused 120 = .ok (.lload 6, 2) := dk_22 6 (dk_at dksX3_focused_5 6 rfl rfl)
theorem dX3_focused_122 : decode cX3_focused 122 = .ok (.lload 9, 2) := dk_22 9 (dk_at dksX3_focused_5 8 rfl rfl)
theorem dX3_focused_124 : decode cX3_focused 124 = .ok (.lload 9, 2) := dk_22 9 (dk_at dksX3_focused_5 10 rfl rfl)
theorem dX3_focused_126 : decode cX3_focused 126 = .ok (.lmul, 1) := dk_105 (dk_at dksX3_focused_5 12 rfl rfl)
theorem dX3_focused_127 : decode cX3_focused 127 = .ok (.ladd, 1) := dk_97 (dk_at dksX3_focused_5 13 rfl rfl)
theorem dX3_focused_128 : decode cX3_focused 128 = .ok (.lstore 6, 2) := dk_55 6 (dk_at dksX3_focused_5 14 rfl rfl)
theorem dX3_focused_130 : decode cX3_focused 130 = .ok (.iinc 8 1, 3) := dk_132 8 1 (dk_at dksX3_focused_5 16 rfl rfl)
theorem dX3_focused_133 : decode cX3_focused 133 = .ok (.goto (-127), 3) := dk_167 255 129 (dk_at dksX3_focused_5 19 rfl rfl)
theorem dX3_focused_136 : decode cX3_focused 136 = .ok (.iload 5, 2) := dk_21 5 (dk_at dksX3_focused_5 22 rfl rfl)
theorem dX3_focused_138 : decode cX3_focused 138 = .ok (.ifCond .ne 7, 3) := dk_154 0 7 (dk_at dksX3_focused_6 0 rfl rfl)
theorem dX3_focused_141 : decode cX3_focused 141 = .ok (.lconst 0, 1) := dk_9 (dk_at dksX3_focused_6 3 rfl rfl)
theorem dX3_focused_142 : decode cX3_focused 142 = .ok (.goto 9, 3) := dk_167 0 9 (dk_at dksX3_focused_6 4 rfl rfl)
theorem dX3_focused_145 : decode cX3_focused 145 = .ok (.lload 6, 2) := dk_22 6 (dk_at dksX3_focused_6 7 rfl rfl)
theorem dX3_focused_147 : decode cX3_focused 147 = .ok (.iload 5, 2) := dk_21 5 (dk_at dksX3_focused_6 9 rfl rfl)
theorem dX3_focused_149 : decode cX3_focused 149 = .ok (.i2l, 1) := dk_133 (dk_at dksX3_focused_6 11 rfl rfl)
theorem dX3_focused_150 : decode cX3_focused 150 = .ok (.ldiv, 1) := dk_109 (dk_at dksX3_focused_6 12 rfl rfl)
theorem dX3_focused_151 : decode cX3_focused 151 = .ok (.lreturn, 1) := dk_173 (dk_at dksX3_focused_6 13 rfl rfl)
abbrev cX3_best : ByteArray := prog_9_method_17_code
def yX3_best : MethodName := ⟨RX3, "best", "()I"⟩
def dkwX3_best_0 : List UInt8 := [42, 182, 0, 206, 76, 43, 190, 43, 186, 0, 209, 0, 0, 184, 0, 213, 172]
abbrev dktX3_best_0 : List UInt8 := dkwX3_best_0 ++ []
theorem dksX3_best_0 : cX3_best.data.toList.drop 0 = dktX3_best_0 := by decide +kernel
theorem dX3_best_0 : decode cX3_best 0 = .ok (.aload_n 0, 1) := dk_42 (dk_at dksX3_best_0 0 rfl rfl)
theorem dX3_best_1 : decode cX3_best 1 = .ok (.invokevirtual 206, 3) := dk_182 0 206 (dk_at dksX3_best_0 1 rfl rfl)
theorem dX3_best_4 : decode cX3_best 4 = .ok (.astore_n 1, 1) := dk_76 (dk_at dksX3_best_0 4 rfl rfl)
theorem dX3_best_5 : decode cX3_best 5 = .ok (.aload_n 1, 1) := dk_43 (dk_at dksX3_best_0 5 rfl rfl)
theorem dX3_best_6 : decode cX3_best 6 = .ok (.arraylength, 1) := dk_190 (dk_at dksX3_best_0 6 rfl rfl)
theorem dX3_best_7 : decode cX3_best 7 = .ok (.aload_n 1, 1) := dk_43 (dk_at dksX3_best_0 7 rfl rfl)
theorem dX3_best_8 : decode cX3_best 8 = .ok (.invokedynamic 209, 5) := by decide +kernel
theorem dX3_best_13 : decode cX3_best 13 = .ok (.invokestatic 213, 3) := dk_184 0 213 (dk_at dksX3_best_0 13 rfl rfl)
theorem dX3_best_16 : decode cX3_best 16 = .ok (.ireturn, 1) := dk_172 (dk_at dksX3_best_0 16 rfl rfl)
abbrev cX3_lambda_best_0 : ByteArray := prog_9_method_38_code
def yX3_lambda_best_0 : MethodName := ⟨RX3, "lambda$best$0", "([JI)J"⟩
def dkwX3_lambda_best_0_0 : List UInt8 := [42, 27, 47, 173]
abbrev dktX3_lambda_best_0_0 : List UInt8 := dkwX3_lambda_best_0_0 ++ []
theorem dksX3_lambda_best_0_0 : cX3_lambda_best_0.data.toList.drop 0 = dktX3_lambda_best_0_0 := by decide +kernel
theorem dX3_lambda_best_0_0 : decode cX3_lambda_best_0 0 = .ok (.aload_n 0, 1) := dk_42 (dk_at dksX3_lambda_best_0_0 0 rfl rfl)
theorem dX3_lambda_best_0_1 : decode cX3_lambda_best_0 1 = .ok (.iload_n 1, 1) := dk_27 (dk_at dksX3_lambda_best_0_0 1 rfl rfl)
theorem dX3_lambda_best_0_2 : decode cX3_lambda_best_0 2 = .ok (.laload, 1) := dk_47 (dk_at dksX3_lambda_best_0_0 2 rfl rfl)
theorem dX3_lambda_best_0_3 : decode cX3_lambda_best_0 3 = .ok (.lreturn, 1) := dk_173 (dk_at dksX3_lambda_best_0_0 3 rfl rfl)
abbrev cX3_isPeak : ByteArray := prog_9_method_27_code
def yX3_isPeak : MethodName := ⟨RX3, "isPeak", "(I)Z"⟩
def dkwX3_isPeak_5 : List UInt8 := [155, 0, 5, 3, 172, 132, 6, 1, 167, 255, 199, 132, 5, 1, 167, 255, 163, 4, 172]
abbrev dktX3_isPeak_5 : List UInt8 := dkwX3_isPeak_5 ++ []
def dkwX3_isPeak_4 : List UInt8 := [180, 0, 230, 104, 21, 6, 96, 54, 7, 21, 7, 27, 159, 0, 16, 44, 21, 7, 47, 44, 27, 47, 148]
abbrev dktX3_isPeak_4 : List UInt8 := dkwX3_isPeak_4 ++ dktX3_isPeak_5
def dkwX3_isPeak_3 : List UInt8 := [180, 0, 23, 180, 0, 230, 4, 100, 29, 4, 96, 184, 0, 165, 163, 0, 43, 21, 5, 42, 180, 0, 23]
abbrev dktX3_isPeak_3 : List UInt8 := dkwX3_isPeak_3 ++ dktX3_isPeak_4
def dkwX3_isPeak_2 : List UInt8 := [21, 4, 4, 96, 184, 0, 165, 163, 0, 78, 3, 29, 4, 100, 184, 0, 171, 54, 6, 21, 6, 42]
abbrev dktX3_isPeak_2 : List UInt8 := dkwX3_isPeak_2 ++ dktX3_isPeak_3
def dkwX3_isPeak_1 : List UInt8 := [54, 4, 3, 21, 4, 4, 100, 184, 0, 171, 54, 5, 21, 5, 42, 180, 0, 23, 180, 1, 1, 4, 100]
abbrev dktX3_isPeak_1 : List UInt8 := dkwX3_isPeak_1 ++ dktX3_isPeak_2
def dkwX3_isPeak_0 : List UInt8 := [42, 182, 0, 206, 77, 27, 42, 180, 0, 23, 180, 0, 230, 112, 62, 27, 42, 180, 0, 23, 180, 0, 230, 108]
abbrev dktX3_isPeak_0 : List UInt8 := dkwX3_isPeak_0 ++ dktX3_isPeak_1
theorem dksX3_isPeak_0 : cX3_isPeak.data.toList.drop 0 = dktX3_isPeak_0 := by decide +kernel
theorem dksX3_isPeak_1 : cX3_isPeak.data.toList.drop 24 = dktX3_isPeak_1 := dk_seg dksX3_isPeak_0 24 rfl rfl
theorem dksX3_isPeak_2 : cX3_isPeak.data.toList.drop 47 = dktX3_isPeak_2 := dk_seg dksX3_isPeak_1 23 rfl rfl
theorem dksX3_isPeak_3 : cX3_isPeak.data.toList.drop 69 = dktX3_isPeak_3 := dk_seg dksX3_isPeak_2 22 rfl rfl
theorem dksX3_isPeak_4 : cX3_isPeak.data.toList.drop 92 = dktX3_isPeak_4 := dk_seg dksX3_isPeak_3 23 rfl rfl
theorem dksX3_isPeak_5 : cX3_isPeak.data.toList.drop 115 = dktX3_isPeak_5 := dk_seg dksX3_isPeak_4 23 rfl rfl
theorem dX3_isPeak_0 : decode cX3_isPeak 0 = .ok (.aload_n 0, 1) := dk_42 (dk_at dksX3_isPeak_0 0 rfl rfl)
theorem dX3_isPeak_1 : decode cX3_isPeak 1 = .ok (.invokevirtual 206, 3) := dk_182 0 206 (dk_at dksX3_isPeak_0 1 rfl rfl)
theorem dX3_isPeak_4 : decode cX3_isPeak 4 = .ok (.astore_n 2, 1) := dk_77 (dk_at dksX3_isPeak_0 4 rfl rfl)
theorem dX3_isPeak_5 : decode cX3_isPeak 5 = .ok (.iload_n 1, 1) := dk_27 (dk_at dksX3_isPeak_0 5 rfl rfl)
theorem dX3_isPeak_6 : decode cX3_isPeak 6 = .ok (.aload_n 0, 1) := dk_42 (dk_at dksX3_isPeak_0 6 rfl rfl)
theorem dX3_isPeak_7 : decode cX3_isPeak 7 = .ok (.getfield 23, 3) := dk_180 0 23 (dk_at dksX3_isPeak_0 7 rfl rfl)
theorem dX3_isPeak_10 : decode cX3_isPeak 10 = .ok (.getfield 230, 3) := dk_180 0 230 (dk_at dksX3_isPeak_0 10 rfl rfl)
theorem dX3_isPeak_13 : decode cX3_isPeak 13 = .ok (.irem, 1) := dk_112 (dk_at dksX3_isPeak_0 13 rfl rfl)
theorem dX3_isPeak_14 : decode cX3_isPeak 14 = .ok (.istore_n 3, 1) := dk_62 (dk_at dksX3_isPeak_0 14 rfl rfl)
theorem dX3_isPeak_15 : decode cX3_isPeak 15 = .ok (.iload_n 1, 1) := dk_27 (dk_at dksX3_isPeak_0 15 rfl rfl)
theorem dX3_isPeak_16 : decode cX3_isPeak 16 = .ok (.aload_n 0, 1) := dk_42 (dk_at dksX3_isPeak_0 16 rfl rfl)
theorem dX3_isPeak_17 : decode cX3_isPeak 17 = .ok (.getfield 23, 3) := dk_180 0 23 (dk_at dksX3_isPeak_0 17 rfl rfl)
theorem dX3_isPeak_20 : decode cX3_isPeak 20 = .ok (.getfield 230, 3) := dk_180 0 230 (dk_at dksX3_isPeak_0 20 rfl rfl)
theorem dX3_isPeak_23 : decode cX3_isPeak 23 = .ok (.idiv, 1) := dk_108 (dk_at dksX3_isPeak_0 23 rfl rfl)
theorem dX3_isPeak_24 : decode cX3_isPeak 24 = .ok (.istore 4, 2) := dk_54 4 (dk_at dksX3_isPeak_1 0 rfl rfl)
theorem dX3_isPeak_26 : decode cX3_isPeak 26 = .ok (.iconst 0, 1) := dk_3 (dk_at dksX3_isPeak_1 2 rfl rfl)
theorem dX3_isPeak_27 : decode cX3_isPeak 27 = .ok (.iload 4, 2) := dk_21 4 (dk_at dksX3_isPeak_1 3 rfl rfl)
theorem dX3_isPeak_29 : decode cX3_isPeak 29 = .ok (.iconst 1, 1) := dk_4 (dk_at dksX3_isPeak_1 5 rfl rfl)
theorem dX3_isPeak_30 : decode cX3_isPeak 30 = .ok (.isub, 1) := dk_100 (dk_at dksX3_isPeak_1 6 rfl rfl)
theorem dX3_isPeak_31 : decode cX3_isPeak 31 = .ok (.invokestatic 171, 3) := dk_184 0 171 (dk_at dksX3_isPeak_1 7 rfl rfl)
theorem dX3_isPeak_34 : decode cX3_isPeak 34 = .ok (.istore 5, 2) := dk_54 5 (dk_at dksX3_isPeak_1 10 rfl rfl)
theorem dX3_isPeak_36 : decode cX3_isPeak 36 = .ok (.iload 5, 2) := dk_21 5 (dk_at dksX3_isPeak_1 12 rfl rfl)
theorem dX3_isPeak_38 : decode cX3_isPeak 38 = .ok (.aload_n 0, 1) := dk_42 (dk_at dksX3_isPeak_1 14 rfl rfl)
theorem dX3_isPeak_39 : decode cX3_isPeak 39 = .ok (.getfield 23, 3) := dk_180 0 23 (dk_at dksX3_isPeak_1 15 rfl rfl)
theorem dX3_isPeak_42 : decode cX3_isPeak 42 = .ok (.getfield 257, 3) := dk_180 1 1 (dk_at dksX3_isPeak_1 18 rfl rfl)
theorem dX3_isPeak_45 : decode cX3_isPeak 45 = .ok (.iconst 1, 1) := dk_4 (dk_at dksX3_isPeak_1 21 rfl rfl)
theorem dX3_isPeak_46 : decode cX3_isPeak 46 = .ok (.isub, 1) := dk_100 (dk_at dksX3_isPeak_1 22 rfl rfl)
theorem dX3_isPeak_47 : decode cX3_isPeak 47 = .ok (.iload 4, 2) := dk_21 4 (dk_at dksX3_isPeak_2 0 rfl rfl)
theorem dX3_isPeak_49 : decode cX3_isPeak 49 = .ok (.iconst 1, 1) := dk_4 (dk_at dksX3_isPeak_2 2 rfl rfl)
theorem dX3_isPeak_50 : decode cX3_isPeak 50 = .ok (.iadd, 1) := dk_96 (dk_at dksX3_isPeak_2 3 rfl rfl)
theorem dX3_isPeak_51 : decode cX3_isPeak 51 = .ok (.invokestatic 165, 3) := dk_184 0 165 (dk_at dksX3_isPeak_2 4 rfl rfl)
theorem dX3_isPeak_54 : decode cX3_isPeak 54 = .ok (.if_icmp .gt 78, 3) := dk_163 0 78 (dk_at dksX3_isPeak_2 7 rfl rfl)
theorem dX3_isPeak_57 : decode cX3_isPeak 57 = .ok (.iconst 0, 1) := dk_3 (dk_at dksX3_isPeak_2 10 rfl rfl)
theorem dX3_isPeak_58 : decode cX3_isPeak 58 = .ok (.iload_n 3, 1) := dk_29 (dk_at dksX3_isPeak_2 11 rfl rfl)
theorem dX3_isPeak_59 : decode cX3_isPeak 59 = .ok (.iconst 1, 1) := dk_4 (dk_at dksX3_isPeak_2 12 rfl rfl)
theorem dX3_isPeak_60 : decode cX3_isPeak 60 = .ok (.isub, 1) := dk_100 (dk_at dksX3_isPeak_2 13 rfl rfl)
theorem dX3_isPeak_61 : decode cX3_isPeak 61 = .ok (.invokestatic 171, 3) := dk_184 0 171 (dk_at dksX3_isPeak_2 14 rfl rfl)
theorem dX3_isPeak_64 : decode cX3_isPeak 64 = .ok (.istore 6, 2) := dk_54 6 (dk_at dksX3_isPeak_2 17 rfl rfl)
theorem dX3_isPeak_66 : decode cX3_isPeak 66 = .ok (.iload 6, 2) := dk_21 6 (dk_at dksX3_isPeak_2 19 rfl rfl)
theorem dX3_isPeak_68 : decode cX3_isPeak 68 = .ok (.aload_n 0, 1) := dk_42 (dk_at dksX3_isPeak_2 21 rfl rfl)
theorem dX3_isPeak_69 : decode cX3_isPeak 69 = .ok (.getfield 23, 3) := dk_180 0 23 (dk_at dksX3_isPeak_3 0 rfl rfl)
theorem dX3_isPeak_72 : decode cX3_isPeak 72 = .ok (.getfield 230, 3) := dk_180 0 230 (dk_at dksX3_isPeak_3 3 rfl rfl)
theorem dX3_isPeak_75 : decode cX3_isPeak 75 = .ok (.iconst 1, 1) := dk_4 (dk_at dksX3_isPeak_3 6 rfl rfl)
theorem dX3_isPeak_76 : decode cX3_isPeak 76 = .ok (.isub, 1) := dk_100 (dk_at dksX3_isPeak_3 7 rfl rfl)
theorem dX3_isPeak_77 : decode cX3_isPeak 77 = .ok (.iload_n 3, 1) := dk_29 (dk_at dksX3_isPeak_3 8 rfl rfl)
theorem dX3_isPeak_78 : decode cX3_isPeak 78 = .ok (.iconst 1, 1) := dk_4 (dk_at dksX3_isPeak_3 9 rfl rfl)
theorem dX3_isPeak_79 : decode cX3_isPeak 79 = .ok (.iadd, 1) := dk_96 (dk_at dksX3_isPeak_3 10 rfl rfl)
theorem dX3_isPeak_80 : decode cX3_isPeak 80 = .ok (.invokestatic 165, 3) := dk_184 0 165 (dk_at dksX3_isPeak_3 11 rfl rfl)
theorem dX3_isPeak_83 : decode cX3_isPeak 83 = .ok (.if_icmp .gt 43, 3) := dk_163 0 43 (dk_at dksX3_isPeak_3 14 rfl rfl)
theorem dX3_isPeak_86 : decode cX3_isPeak 86 = .ok (.iload 5, 2) := dk_21 5 (dk_at dksX3_isPeak_3 17 rfl rfl)
theorem dX3_isPeak_88 : decode cX3_isPeak 88 = .ok (.aload_n 0, 1) := dk_42 (dk_at dksX3_isPeak_3 19 rfl rfl)
theorem dX3_isPeak_89 : decode cX3_isPeak 89 = .ok (.getfield 23, 3) := dk_180 0 23 (dk_at dksX3_isPeak_3 20 rfl rfl)
theorem dX3_isPeak_92 : decode cX3_isPeak 92 = .ok (.getfield 230, 3) := dk_180 0 230 (dk_at dksX3_isPeak_4 0 rfl rfl)
theorem dX3_isPeak_95 : decode cX3_isPeak 95 = .ok (.imul, 1) := dk_104 (dk_at dksX3_isPeak_4 3 rfl rfl)
theorem dX3_isPeak_96 : decode cX3_isPeak 96 = .ok (.iload 6, 2) := dk_21 6 (dk_at dksX3_isPeak_4 4 rfl rfl)
theorem dX3_isPeak_98 : decode cX3_isPeak 98 = .ok (.iadd, 1) := dk_96 (dk_at dksX3_isPeak_4 6 rfl rfl)
theorem dX3_isPeak_99 : decode cX3_isPeak 99 = .ok (.istore 7, 2) := dk_54 7 (dk_at dksX3_isPeak_4 7 rfl rfl)
theorem dX3_isPeak_101 : decode cX3_isPeak 101 = .ok (.iload 7, 2) := dk_21 7 (dk_at dksX3_isPeak_4 9 rfl rfl)
theorem dX3_isPeak_103 : decode cX3_isPeak 103 = .ok (.iload_n 1, 1) := dk_27 (dk_at dksX3_isPeak_4 11 rfl rfl)
theorem dX3_isPeak_104 : decode cX3_isPeak 104 = .ok (.if_icmp .eq 16, 3) := dk_159 0 16 (dk_at dksX3_isPeak_4 12 rfl rfl)
theorem dX3_isPeak_107 : decode cX3_isPeak 107 = .ok (.aload_n 2, 1) := dk_44 (dk_at dksX3_isPeak_4 15 rfl rfl)
theorem dX3_isPeak_108 : decode cX3_isPeak 108 = .ok (.iload 7, 2) := dk_21 7 (dk_at dksX3_isPeak_4 16 rfl rfl)
theorem dX3_isPeak_110 : decode cX3_isPeak 110 = .ok (.laload, 1) := dk_47 (dk_at dksX3_isPeak_4 18 rfl rfl)
theorem dX3_isPeak_111 : decode cX3_isPeak 111 = .ok (.aload_n 2, 1) := dk_44 (dk_at dksX3_isPeak_4 19 rfl rfl)
theorem dX3_isPeak_112 : decode cX3_isPeak 112 = .ok (.iload_n 1, 1) := dk_27 (dk_at dksX3_isPeak_4 20 rfl rfl)
theorem dX3_isPeak_113 : decode cX3_isPeak 113 = .ok (.laload, 1) := dk_47 (dk_at dksX3_isPeak_4 21 rfl rfl)
theorem dX3_isPeak_114 : decode cX3_isPeak 114 = .ok (.lcmp, 1) := dk_148 (dk_at dksX3_isPeak_4 22 rfl rfl)
theorem dX3_isPeak_115 : decode cX3_isPeak 115 = .ok (.ifCond .lt 5, 3) := dk_155 0 5 (dk_at dksX3_isPeak_5 0 rfl rfl)
theorem dX3_isPeak_118 : decode cX3_isPeak 118 = .ok (.iconst 0, 1) := dk_3 (dk_at dksX3_isPeak_5 3 rfl rfl)
theorem dX3_isPeak_119 : decode cX3_isPeak 119 = .ok (.ireturn, 1) := dk_172 (dk_at dksX3_isPeak_5 4 rfl rfl)
theorem dX3_isPeak_120 : decode cX3_isPeak 120 = .ok (.iinc 6 1, 3) := dk_132 6 1 (dk_at dksX3_isPeak_5 5 rfl rfl)
theorem dX3_isPeak_123 : decode cX3_isPeak 123 = .ok (.goto (-57), 3) := dk_167 255 199 (dk_at dksX3_isPeak_5 8 rfl rfl)
theorem dX3_isPeak_126 : decode cX3_isPeak 126 = .ok (.iinc 5 1, 3) := dk_132 5 1 (dk_at dksX3_isPeak_5 11 rfl rfl)
theorem dX3_isPeak_129 : decode cX3_isPeak 129 = .ok (.goto (-93), 3) := dk_167 255 163 (dk_at dksX3_isPeak_5 14 rfl rfl)
theorem dX3_isPeak_132 : decode cX3_isPeak 132 = .ok (.iconst 1, 1) := dk_4 (dk_at dksX3_isPeak_5 17 rfl rfl)
theorem dX3_isPeak_133 : decode cX3_isPeak 133 = .ok (.ireturn, 1) := dk_172 (dk_at dksX3_isPeak_5 18 rfl rfl)
abbrev cX3_peaks : ByteArray := prog_9_method_28_code
def yX3_peaks : MethodName := ⟨RX3, "peaks", "()Ljava/util/LinkedList;"⟩
def dkwX3_peaks_0 : List UInt8 := [42, 182, 0, 206, 76, 43, 190, 42, 186, 1, 4, 0, 0, 43, 186, 1, 8, 0, 0, 184, 1, 9, 176]
abbrev dktX3_peaks_0 : List UInt8 := dkwX3_peaks_0 ++ []
theorem dksX3_peaks_0 : cX3_peaks.data.toList.drop 0 = dktX3_peaks_0 := by decide +kernel
theorem dX3_peaks_0 : decode cX3_peaks 0 = .ok (.aload_n 0, 1) := dk_42 (dk_at dksX3_peaks_0 0 rfl rfl)
theorem dX3_peaks_1 : decode cX3_peaks 1 = .ok (.invokevirtual 206, 3) := dk_182 0 206 (dk_at dksX3_peaks_0 1 rfl rfl)
theorem dX3_peaks_4 : decode cX3_peaks 4 = .ok (.astore_n 1, 1) := dk_76 (dk_at dksX3_peaks_0 4 rfl rfl)
theorem dX3_peaks_5 : decode cX3_peaks 5 = .ok (.aload_n 1, 1) := dk_43 (dk_at dksX3_peaks_0 5 rfl rfl)
theorem dX3_peaks_6 : decode cX3_peaks 6 = .ok (.arraylength, 1) := dk_190 (dk_at dksX3_peaks_0 6 rfl rfl)
theorem dX3_peaks_7 : decode cX3_peaks 7 = .ok (.aload_n 0, 1) := dk_42 (dk_at dksX3_peaks_0 7 rfl rfl)
theorem dX3_peaks_8 : decode cX3_peaks 8 = .ok (.invokedynamic 260, 5) := by decide +kernel
theorem dX3_peaks_13 : decode cX3_peaks 13 = .ok (.aload_n 1, 1) := dk_43 (dk_at dksX3_peaks_0 13 rfl rfl)
theorem dX3_peaks_14 : decode cX3_peaks 14 = .ok (.invokedynamic 264, 5) := by decide +kernel
theorem dX3_peaks_19 : decode cX3_peaks 19 = .ok (.invokestatic 265, 3) := dk_184 1 9 (dk_at dksX3_peaks_0 19 rfl rfl)
theorem dX3_peaks_22 : decode cX3_peaks 22 = .ok (.areturn, 1) := dk_176 (dk_at dksX3_peaks_0 22 rfl rfl)
abbrev cX3_lambda_peaks_2 : ByteArray := prog_9_method_36_code
def yX3_lambda_peaks_2 : MethodName := ⟨RX3, "lambda$peaks$2", "(I)Z"⟩
def dkwX3_lambda_peaks_2_0 : List UInt8 := [42, 27, 182, 1, 21, 172]
abbrev dktX3_lambda_peaks_2_0 : List UInt8 := dkwX3_lambda_peaks_2_0 ++ []
theorem dksX3_lambda_peaks_2_0 : cX3_lambda_peaks_2.data.toList.drop 0 = dktX3_lambda_peaks_2_0 := by decide +kernel
theorem dX3_lambda_peaks_2_0 : decode cX3_lambda_peaks_2 0 = .ok (.aload_n 0, 1) := dk_42 (dk_at dksX3_lambda_peaks_2_0 0 rfl rfl)
theorem dX3_lambda_peaks_2_1 : decode cX3_lambda_peaks_2 1 = .ok (.iload_n 1, 1) := dk_27 (dk_at dksX3_lambda_peaks_2_0 1 rfl rfl)
theorem dX3_lambda_peaks_2_2 : decode cX3_lambda_peaks_2 2 = .ok (.invokevirtual 277, 3) := dk_182 1 21 (dk_at dksX3_lambda_peaks_2_0 2 rfl rfl)
theorem dX3_lambda_peaks_2_5 : decode cX3_lambda_peaks_2 5 = .ok (.ireturn, 1) := dk_172 (dk_at dksX3_lambda_peaks_2_0 5 rfl rfl)
abbrev cX3_lambda_peaks_3 : ByteArray := prog_9_method_35_code
def yX3_lambda_peaks_3 : MethodName := ⟨RX3, "lambda$peaks$3", "([JI)J"⟩
def dkwX3_lambda_peaks_3_0 : List UInt8 := [42, 27, 47, 173]
abbrev dktX3_lambda_peaks_3_0 : List UInt8 := dkwX3_lambda_peaks_3_0 ++ []
theorem dksX3_lambda_peaks_3_0 : cX3_lambda_peaks_3.data.toList.drop 0 = dktX3_lambda_peaks_3_0 := by decide +kernel
theorem dX3_lambda_peaks_3_0 : decode cX3_lambda_peaks_3 0 = .ok (.aload_n 0, 1) := dk_42 (dk_at dksX3_lambda_peaks_3_0 0 rfl rfl)
theorem dX3_lambda_peaks_3_1 : decode cX3_lambda_peaks_3 1 = .ok (.iload_n 1, 1) := dk_27 (dk_at dksX3_lambda_peaks_3_0 1 rfl rfl)
theorem dX3_lambda_peaks_3_2 : decode cX3_lambda_peaks_3 2 = .ok (.laload, 1) := dk_47 (dk_at dksX3_lambda_peaks_3_0 2 rfl rfl)
theorem dX3_lambda_peaks_3_3 : decode cX3_lambda_peaks_3 3 = .ok (.lreturn, 1) := dk_173 (dk_at dksX3_lambda_peaks_3_0 3 rfl rfl)
abbrev cX3_isInZone : ByteArray := prog_9_method_26_code
def yX3_isInZone : MethodName := ⟨RX3, "isInZone", "(II)Z"⟩
def dkwX3_isInZone_1 : List UInt8 := [112, 28, 42, 180, 0, 23, 180, 0, 230, 108, 182, 0, 254, 172]
abbrev dktX3_isInZone_1 : List UInt8 := dkwX3_isInZone_1 ++ []
def dkwX3_isInZone_0 : List UInt8 := [42, 180, 0, 23, 180, 0, 249, 27, 185, 0, 44, 2, 0, 192, 0, 252, 28, 42, 180, 0, 23, 180, 0, 230]
abbrev dktX3_isInZone_0 : List UInt8 := dkwX3_isInZone_0 ++ dktX3_isInZone_1
theorem dksX3_isInZone_0 : cX3_isInZone.data.toList.drop 0 = dktX3_isInZone_0 := by decide +kernel
theorem dksX3_isInZone_1 : cX3_isInZone.data.toList.drop 24 = dktX3_isInZone_1 := dk_seg dksX3_isInZone_0 24 rfl rfl
theorem dX3_isInZone_0 : decode cX3_isInZone 0 = .ok (.aload_n 0, 1) := dk_42 (dk_at dksX3_isInZone_0 0 rfl rfl)
theorem dX3_isInZone_1 : decode cX3_isInZone 1 = .ok (.getfield 23, 3) := dk_180 0 23 (dk_at dksX3_isInZone_0 1 rfl rfl)
theorem dX3_isInZone_4 : decode cX3_isInZone 4 = .ok (.getfield 249, 3) := dk_180 0 249 (dk_at dksX3_isInZone_0 4 rfl rfl)
theorem dX3_isInZone_7 : decode cX3_isInZone 7 = .ok (.iload_n 1, 1) := dk_27 (dk_at dksX3_isInZone_0 7 rfl rfl)
theorem dX3_isInZone_8 : decode cX3_isInZone 8 = .ok (.invokeinterface 44 2, 5) := by decide +kernel
theorem dX3_isInZone_13 : decode cX3_isInZone 13 = .ok (.checkcast 252, 3) := dk_192 0 252 (dk_at dksX3_isInZone_0 13 rfl rfl)
theorem dX3_isInZone_16 : decode cX3_isInZone 16 = .ok (.iload_n 2, 1) := dk_28 (dk_at dksX3_isInZone_0 16 rfl rfl)
theorem dX3_isInZone_17 : decode cX3_isInZone 17 = .ok (.aload_n 0, 1) := dk_42 (dk_at dksX3_isInZone_0 17 rfl rfl)
theorem dX3_isInZone_18 : decode cX3_isInZone 18 = .ok (.getfield 23, 3) := dk_180 0 23 (dk_at dksX3_isInZone_0 18 rfl rfl)
theorem dX3_isInZone_21 : decode cX3_isInZone 21 = .ok (.getfield 230, 3) := dk_180 0 230 (dk_at dksX3_isInZone_0 21 rfl rfl)
theorem dX3_isInZone_24 : decode cX3_isInZone 24 = .ok (.irem, 1) := dk_112 (dk_at dksX3_isInZone_1 0 rfl rfl)
theorem dX3_isInZone_25 : decode cX3_isInZone 25 = .ok (.iload_n 2, 1) := dk_28 (dk_at dksX3_isInZone_1 1 rfl rfl)
theorem dX3_isInZone_26 : decode cX3_isInZone 26 = .ok (.aload_n 0, 1) := dk_42 (dk_at dksX3_isInZone_1 2 rfl rfl)
theorem dX3_isInZone_27 : decode cX3_isInZone 27 = .ok (.getfield 23, 3) := dk_180 0 23 (dk_at dksX3_isInZone_1 3 rfl rfl)
theorem dX3_isInZone_30 : decode cX3_isInZone 30 = .ok (.getfield 230, 3) := dk_180 0 230 (dk_at dksX3_isInZone_1 6 rfl rfl)
theorem dX3_isInZone_33 : decode cX3_isInZone 33 = .ok (.idiv, 1) := dk_108 (dk_at dksX3_isInZone_1 9 rfl rfl)
theorem dX3_isInZone_34 : decode cX3_isInZone 34 = .ok (.invokevirtual 254, 3) := dk_182 0 254 (dk_at dksX3_isInZone_1 10 rfl rfl)
theorem dX3_isInZone_37 : decode cX3_isInZone 37 = .ok (.ireturn, 1) := dk_172 (dk_at dksX3_isInZone_1 13 rfl rfl)
abbrev cX3_alias : ByteArray := prog_9_method_29_code
def yX3_alias : MethodName := ⟨RX3, "alias", "(III)I"⟩
def dkwX3_alias_3 : List UInt8 := [4, 96, 79, 21, 5, 25, 4, 21, 7, 46, 184, 0, 171, 54, 5, 132, 6, 1, 167, 255, 179, 21, 5, 172]
abbrev dktX3_alias_3 : List UInt8 := dkwX3_alias_3 ++ []
def dkwX3_alias_2 : List UInt8 := [180, 0, 23, 180, 0, 183, 21, 6, 50, 28, 46, 100, 29, 184, 1, 13, 54, 7, 25, 4, 21, 7, 92, 46]
abbrev dktX3_alias_2 : List UInt8 := dkwX3_alias_2 ++ dktX3_alias_3
def dkwX3_alias_1 : List UInt8 := [182, 0, 180, 154, 0, 6, 167, 0, 55, 42, 180, 0, 23, 180, 0, 183, 21, 6, 50, 27, 46, 42]
abbrev dktX3_alias_1 : List UInt8 := dkwX3_alias_1 ++ dktX3_alias_2
def dkwX3_alias_0 : List UInt8 := [29, 188, 10, 58, 4, 3, 54, 5, 3, 54, 6, 21, 6, 42, 180, 0, 62, 190, 162, 0, 73, 42, 21, 6]
abbrev dktX3_alias_0 : List UInt8 := dkwX3_alias_0 ++ dktX3_alias_1
theorem dksX3_alias_0 : cX3_alias.data.toList.drop 0 = dktX3_alias_0 := by decide +kernel
theorem dksX3_alias_1 : cX3_alias.data.toList.drop 24 = dktX3_alias_1 := dk_seg dksX3_alias_0 24 rfl rfl
theorem dksX3_alias_2 : cX3_alias.data.toList.drop 46 = dktX3_alias_2 := dk_seg dksX3_alias_1 22 rfl rfl
theorem dksX3_alias_3 : cX3_alias.data.toList.drop 70 = dktX3_alias_3 := dk_seg dksX3_alias_2 24 rfl rfl
theorem dX3_alias_0 : decode cX3_alias 0 = .ok (.iload_n 3, 1) := dk_29 (dk_at dksX3_alias_0 0 rfl rfl)
theorem dX3_alias_1 : decode cX3_alias 1 = .ok (.newarray .int, 2) := dk_188_10 (dk_at dksX3_alias_0 1 rfl rfl)
theorem dX3_alias_3 : decode cX3_alias 3 = .ok (.astore 4, 2) := dk_58 4 (dk_at dksX3_alias_0 3 rfl rfl)
theorem dX3_alias_5 : decode cX3_alias 5 = .ok (.iconst 0, 1) := dk_3 (dk_at dksX3_alias_0 5 rfl rfl)
theorem dX3_alias_6 : decode cX3_alias 6 = .ok (.istore 5, 2) := dk_54 5 (dk_at dksX3_alias_0 6 rfl rfl)
theorem dX3_alias_8 : decode cX3_alias 8 = .ok (.iconst 0, 1) := dk_3 (dk_at dksX3_alias_0 8 rfl rfl)
theorem dX3_alias_9 : decode cX3_alias 9 = .ok (.istore 6, 2) := dk_54 6 (dk_at dksX3_alias_0 9 rfl rfl)
theorem dX3_alias_11 : decode cX3_alias 11 = .ok (.iload 6, 2) := dk_21 6 (dk_at dksX3_alias_0 11 rfl rfl)
theorem dX3_alias_13 : decode cX3_alias 13 = .ok (.aload_n 0, 1) := dk_42 (dk_at dksX3_alias_0 13 rfl rfl)
theorem dX3_alias_14 : decode cX3_alias 14 = .ok (.getfield 62, 3) := dk_180 0 62 (dk_at dksX3_alias_0 14 rfl rfl)
theorem dX3_alias_17 : decode cX3_alias 17 = .ok (.arraylength, 1) := dk_190 (dk_at dksX3_alias_0 17 rfl rfl)
theorem dX3_alias_18 : decode cX3_alias 18 = .ok (.if_icmp .ge 73, 3) := dk_162 0 73 (dk_at dksX3_alias_0 18 rfl rfl)
theorem dX3_alias_21 : decode cX3_alias 21 = .ok (.aload_n 0, 1) := dk_42 (dk_at dksX3_alias_0 21 rfl rfl)
theorem dX3_alias_22 : decode cX3_alias 22 = .ok (.iload 6, 2) := dk_21 6 (dk_at dksX3_alias_0 22 rfl rfl)
theorem dX3_alias_24 : decode cX3_alias 24 = .ok (.invokevirtual 180, 3) := dk_182 0 180 (dk_at dksX3_alias_1 0 rfl rfl)
theorem dX3_alias_27 : decode cX3_alias 27 = .ok (.ifCond .ne 6, 3) := dk_154 0 6 (dk_at dksX3_alias_1 3 rfl rfl)
theorem dX3_alias_30 : decode cX3_alias 30 = .ok (.goto 55, 3) := dk_167 0 55 (dk_at dksX3_alias_1 6 rfl rfl)
theorem dX3_alias_33 : decode cX3_alias 33 = .ok (.aload_n 0, 1) := dk_42 (dk_at dksX3_alias_1 9 rfl rfl)
theorem dX3_alias_34 : decode cX3_alias 34 = .ok (.getfield 23, 3) := dk_180 0 23 (dk_at dksX3_alias_1 10 rfl rfl)
theorem dX3_alias_37 : decode cX3_alias 37 = .ok (.getfield 183, 3) := dk_180 0 183 (dk_at dksX3_alias_1 13 rfl rfl)
theorem dX3_alias_40 : decode cX3_alias 40 = .ok (.iload 6, 2) := dk_21 6 (dk_at dksX3_alias_1 16 rfl rfl)
theorem dX3_alias_42 : decode cX3_alias 42 = .ok (.aaload, 1) := dk_50 (dk_at dksX3_alias_1 18 rfl rfl)
theorem dX3_alias_43 : decode cX3_alias 43 = .ok (.iload_n 1, 1) := dk_27 (dk_at dksX3_alias_1 19 rfl rfl)
theorem dX3_alias_44 : decode cX3_alias 44 = .ok (.iaload, 1) := dk_46 (dk_at dksX3_alias_1 20 rfl rfl)
theorem dX3_alias_45 : decode cX3_alias 45 = .ok (.aload_n 0, 1) := dk_42 (dk_at dksX3_alias_1 21 rfl rfl)
theorem dX3_alias_46 : decode cX3_alias 46 = .ok (.getfield 23, 3) := dk_180 0 23 (dk_at dksX3_alias_2 0 rfl rfl)
theorem dX3_alias_49 : decode cX3_alias 49 = .ok (.getfield 183, 3) := dk_180 0 183 (dk_at dksX3_alias_2 3 rfl rfl)
theorem dX3_alias_52 : decode cX3_alias 52 = .ok (.iload 6, 2) := dk_21 6 (dk_at dksX3_alias_2 6 rfl rfl)
theorem dX3_alias_54 : decode cX3_alias 54 = .ok (.aaload, 1) := dk_50 (dk_at dksX3_alias_2 8 rfl rfl)
theorem dX3_alias_55 : decode cX3_alias 55 = .ok (.iload_n 2, 1) := dk_28 (dk_at dksX3_alias_2 9 rfl rfl)
theorem dX3_alias_56 : decode cX3_alias 56 = .ok (.iaload, 1) := dk_46 (dk_at dksX3_alias_2 10 rfl rfl)
theorem dX3_alias_57 : decode cX3_alias 57 = .ok (.isub, 1) := dk_100 (dk_at dksX3_alias_2 11 rfl rfl)
theorem dX3_alias_58 : decode cX3_alias 58 = .ok (.iload_n 3, 1) := dk_29 (dk_at dksX3_alias_2 12 rfl rfl)
theorem dX3_alias_59 : decode cX3_alias 59 = .ok (.invokestatic 269, 3) := dk_184 1 13 (dk_at dksX3_alias_2 13 rfl rfl)
theorem dX3_alias_62 : decode cX3_alias 62 = .ok (.istore 7, 2) := dk_54 7 (dk_at dksX3_alias_2 16 rfl rfl)
theorem dX3_alias_64 : decode cX3_alias 64 = .ok (.aload 4, 2) := dk_25 4 (dk_at dksX3_alias_2 18 rfl rfl)
theorem dX3_alias_66 : decode cX3_alias 66 = .ok (.iload 7, 2) := dk_21 7 (dk_at dksX3_alias_2 20 rfl rfl)
theorem dX3_alias_68 : decode cX3_alias 68 = .ok (.dup2, 1) := dk_92 (dk_at dksX3_alias_2 22 rfl rfl)
theorem dX3_alias_69 : decode cX3_alias 69 = .ok (.iaload, 1) := dk_46 (dk_at dksX3_alias_2 23 rfl rfl)
theorem dX3_alias_70 : decode cX3_alias 70 = .ok (.iconst 1, 1) := dk_4 (dk_at dksX3_alias_3 0 rfl rfl)
theorem dX3_alias_71 : decode cX3_alias 71 = .ok (.iadd, 1) := dk_96 (dk_at dksX3_alias_3 1 rfl rfl)
theorem dX3_alias_72 : decode cX3_alias 72 = .ok (.iastore, 1) := dk_79 (dk_at dksX3_alias_3 2 rfl rfl)
theorem dX3_alias_73 : decode cX3_alias 73 = .ok (.iload 5, 2) := dk_21 5 (dk_at dksX3_alias_3 3 rfl rfl)
theorem dX3_alias_75 : decode cX3_alias 75 = .ok (.aload 4, 2) := dk_25 4 (dk_at dksX3_alias_3 5 rfl rfl)
theorem dX3_alias_77 : decode cX3_alias 77 = .ok (.iload 7, 2) := dk_21 7 (dk_at dksX3_alias_3 7 rfl rfl)
theorem dX3_alias_79 : decode cX3_alias 79 = .ok (.iaload, 1) := dk_46 (dk_at dksX3_alias_3 9 rfl rfl)
theorem dX3_alias_80 : decode cX3_alias 80 = .ok (.invokestatic 171, 3) := dk_184 0 171 (dk_at dksX3_alias_3 10 rfl rfl)
theorem dX3_alias_83 : decode cX3_alias 83 = .ok (.istore 5, 2) := dk_54 5 (dk_at dksX3_alias_3 13 rfl rfl)
theorem dX3_alias_85 : decode cX3_alias 85 = .ok (.iinc 6 1, 3) := dk_132 6 1 (dk_at dksX3_alias_3 15 rfl rfl)
theorem dX3_alias_88 : decode cX3_alias 88 = .ok (.goto (-77), 3) := dk_167 255 179 (dk_at dksX3_alias_3 18 rfl rfl)
theorem dX3_alias_91 : decode cX3_alias 91 = .ok (.iload 5, 2) := dk_21 5 (dk_at dksX3_alias_3 21 rfl rfl)
theorem dX3_alias_93 : decode cX3_alias 93 = .ok (.ireturn, 1) := dk_172 (dk_at dksX3_alias_3 23 rfl rfl)
abbrev cX3_isAlias : ByteArray := prog_9_method_30_code
def yX3_isAlias : MethodName := ⟨RX3, "isAlias", "(III)Z"⟩
def dkwX3_isAlias_2 : List UInt8 := [161, 0, 7, 4, 167, 0, 4, 3, 172]
abbrev dktX3_isAlias_2 : List UInt8 := dkwX3_isAlias_2 ++ []
def dkwX3_isAlias_1 : List UInt8 := [154, 0, 5, 3, 172, 16, 100, 42, 27, 21, 4, 28, 182, 1, 24, 104, 29, 42, 182, 1, 18, 104]
abbrev dktX3_isAlias_1 : List UInt8 := dkwX3_isAlias_1 ++ dktX3_isAlias_2
def dkwX3_isAlias_0 : List UInt8 := [42, 182, 1, 16, 54, 4, 27, 21, 4, 159, 0, 18, 42, 182, 1, 18, 153, 0, 11, 42, 27, 182, 1, 21]
abbrev dktX3_isAlias_0 : List UInt8 := dkwX3_isAlias_0 ++ dktX3_isAlias_1
theorem dksX3_isAlias_0 : cX3_isAlias.data.toList.drop 0 = dktX3_isAlias_0 := by decide +kernel
theorem dksX3_isAlias_1 : cX3_isAlias.data.toList.drop 24 = dktX3_isAlias_1 := dk_seg dksX3_isAlias_0 24 rfl rfl
theorem dksX3_isAlias_2 : cX3_isAlias.data.toList.drop 46 = dktX3_isAlias_2 := dk_seg dksX3_isAlias_1 22 rfl rfl
theorem dX3_isAlias_0 : decode cX3_isAlias 0 = .ok (.aload_n 0, 1) := dk_42 (dk_at dksX3_isAlias_0 0 rfl rfl)
theorem dX3_isAlias_1 : decode cX3_isAlias 1 = .ok (.invokevirtual 272, 3) := dk_182 1 16 (dk_at dksX3_isAlias_0 1 rfl rfl)
theorem dX3_isAlias_4 : decode cX3_isAlias 4 = .ok (.istore 4, 2) := dk_54 4 (dk_at dksX3_isAlias_0 4 rfl rfl)
theorem dX3_isAlias_6 : decode cX3_isAlias 6 = .ok (.iload_n 1, 1) := dk_27 (dk_at dksX3_isAlias_0 6 rfl rfl)
theorem dX3_isAlias_7 : decode cX3_isAlias 7 = .ok (.iload 4, 2) := dk_21 4 (dk_at dksX3_isAlias_0 7 rfl rfl)
theorem dX3_isAlias_9 : decode cX3_isAlias 9 = .ok (.if_icmp .eq 18, 3) := dk_159 0 18 (dk_at dksX3_isAlias_0 9 rfl rfl)
theorem dX3_isAlias_12 : decode cX3_isAlias 12 = .ok (.aload_n 0, 1) := dk_42 (dk_at dksX3_isAlias_0 12 rfl rfl)
theorem dX3_isAlias_13 : decode cX3_isAlias 13 = .ok (.invokevirtual 274, 3) := dk_182 1 18 (dk_at dksX3_isAlias_0 13 rfl rfl)
theorem dX3_isAlias_16 : decode cX3_isAlias 16 = .ok (.ifCond .eq 11, 3) := dk_153 0 11 (dk_at dksX3_isAlias_0 16 rfl rfl)
theorem dX3_isAlias_19 : decode cX3_isAlias 19 = .ok (.aload_n 0, 1) := dk_42 (dk_at dksX3_isAlias_0 19 rfl rfl)
theorem dX3_isAlias_20 : decode cX3_isAlias 20 = .ok (.iload_n 1, 1) := dk_27 (dk_at dksX3_isAlias_0 20 rfl rfl)
theorem dX3_isAlias_21 : decode cX3_isAlias 21 = .ok (.invokevirtual 277, 3) := dk_182 1 21 (dk_at dksX3_isAlias_0 21 rfl rfl)
theorem dX3_isAlias_24 : decode cX3_isAlias 24 = .ok (.ifCond .ne 5, 3) := dk_154 0 5 (dk_at dksX3_isAlias_1 0 rfl rfl)
theorem dX3_isAlias_27 : decode cX3_isAlias 27 = .ok (.iconst 0, 1) := dk_3 (dk_at dksX3_isAlias_1 3 rfl rfl)
theorem dX3_isAlias_28 : decode cX3_isAlias 28 = .ok (.ireturn, 1) := dk_172 (dk_at dksX3_isAlias_1 4 rfl rfl)
theorem dX3_isAlias_29 : decode cX3_isAlias 29 = .ok (.bipush 100, 2) := dk_16 100 (dk_at dksX3_isAlias_1 5 rfl rfl)
theorem dX3_isAlias_31 : decode cX3_isAlias 31 = .ok (.aload_n 0, 1) := dk_42 (dk_at dksX3_isAlias_1 7 rfl rfl)
theorem dX3_isAlias_32 : decode cX3_isAlias 32 = .ok (.iload_n 1, 1) := dk_27 (dk_at dksX3_isAlias_1 8 rfl rfl)
theorem dX3_isAlias_33 : decode cX3_isAlias 33 = .ok (.iload 4, 2) := dk_21 4 (dk_at dksX3_isAlias_1 9 rfl rfl)
theorem dX3_isAlias_35 : decode cX3_isAlias 35 = .ok (.iload_n 2, 1) := dk_28 (dk_at dksX3_isAlias_1 11 rfl rfl)
theorem dX3_isAlias_36 : decode cX3_isAlias 36 = .ok (.invokevirtual 280, 3) := dk_182 1 24 (dk_at dksX3_isAlias_1 12 rfl rfl)
theorem dX3_isAlias_39 : decode cX3_isAlias 39 = .ok (.imul, 1) := dk_104 (dk_at dksX3_isAlias_1 15 rfl rfl)
theorem dX3_isAlias_40 : decode cX3_isAlias 40 = .ok (.iload_n 3, 1) := dk_29 (dk_at dksX3_isAlias_1 16 rfl rfl)
theorem dX3_isAlias_41 : decode cX3_isAlias 41 = .ok (.aload_n 0, 1) := dk_42 (dk_at dksX3_isAlias_1 17 rfl rfl)
theorem dX3_isAlias_42 : decode cX3_isAlias 42 = .ok (.invokevirtual 274, 3) := dk_182 1 18 (dk_at dksX3_isAlias_1 18 rfl rfl)
theorem dX3_isAlias_45 : decode cX3_isAlias 45 = .ok (.imul, 1) := dk_104 (dk_at dksX3_isAlias_1 21 rfl rfl)
theorem dX3_isAlias_46 : decode cX3_isAlias 46 = .ok (.if_icmp .lt 7, 3) := dk_161 0 7 (dk_at dksX3_isAlias_2 0 rfl rfl)
theorem dX3_isAlias_49 : decode cX3_isAlias 49 = .ok (.iconst 1, 1) := dk_4 (dk_at dksX3_isAlias_2 3 rfl rfl)
theorem dX3_isAlias_50 : decode cX3_isAlias 50 = .ok (.goto 4, 3) := dk_167 0 4 (dk_at dksX3_isAlias_2 4 rfl rfl)
theorem dX3_isAlias_53 : decode cX3_isAlias 53 = .ok (.iconst 0, 1) := dk_3 (dk_at dksX3_isAlias_2 7 rfl rfl)
theorem dX3_isAlias_54 : decode cX3_isAlias 54 = .ok (.ireturn, 1) := dk_172 (dk_at dksX3_isAlias_2 8 rfl rfl)
abbrev cX3_actives : ByteArray := prog_9_method_9_code
def yX3_actives : MethodName := ⟨RX3, "actives", "()I"⟩
def dkwX3_actives_0 : List UInt8 := [42, 180, 0, 23, 180, 0, 59, 185, 0, 33, 1, 0, 42, 180, 0, 14, 182, 0, 177, 100, 172]
abbrev dktX3_actives_0 : List UInt8 := dkwX3_actives_0 ++ []
theorem dksX3_actives_0 : cX3_actives.data.toList.drop 0 = dktX3_actives_0 := by decide +kernel
theorem dX3_actives_0 : decode cX3_actives 0 = .ok (.aload_n 0, 1) := dk_42 (dk_at dksX3_actives_0 0 rfl rfl)
theorem dX3_actives_1 : decode cX3_actives 1 = .ok (.getfield 23, 3) := dk_180 0 23 (dk_at dksX3_actives_0 1 rfl rfl)
theorem dX3_actives_4 : decode cX3_actives 4 = .ok (.getfield 59, 3) := dk_180 0 59 (dk_at dksX3_actives_0 4 rfl rfl)
theorem dX3_actives_7 : decode cX3_actives 7 = .ok (.invokeinterface 33 1, 5) := by decide +kernel
theorem dX3_actives_12 : decode cX3_actives 12 = .ok (.aload_n 0, 1) := dk_42 (dk_at dksX3_actives_0 12 rfl rfl)
theorem dX3_actives_13 : decode cX3_actives 13 = .ok (.getfield 14, 3) := dk_180 0 14 (dk_at dksX3_actives_0 13 rfl rfl)
theorem dX3_actives_16 : decode cX3_actives 16 = .ok (.invokevirtual 177, 3) := dk_182 0 177 (dk_at dksX3_actives_0 16 rfl rfl)
theorem dX3_actives_19 : decode cX3_actives 19 = .ok (.isub, 1) := dk_100 (dk_at dksX3_actives_0 19 rfl rfl)
theorem dX3_actives_20 : decode cX3_actives 20 = .ok (.ireturn, 1) := dk_172 (dk_at dksX3_actives_0 20 rfl rfl)
abbrev cX3_blockPower : ByteArray := prog_9_method_21_code
def yX3_blockPower : MethodName := ⟨RX3, "blockPower", "(III)J"⟩
def dkwX3_blockPower_0 : List UInt8 := [42, 27, 28, 42, 27, 182, 0, 192, 28, 29, 96, 184, 0, 165, 182, 0, 195, 29, 133, 109, 173]
abbrev dktX3_blockPower_0 : List UInt8 := dkwX3_blockPower_0 ++ []
theorem dksX3_blockPower_0 : cX3_blockPower.data.toList.drop 0 = dktX3_blockPower_0 := by decide +kernel
theorem dX3_blockPower_0 : decode cX3_blockPower 0 = .ok (.aload_n 0, 1) := dk_42 (dk_at dksX3_blockPower_0 0 rfl rfl)
theorem dX3_blockPower_1 : decode cX3_blockPower 1 = .ok (.iload_n 1, 1) := dk_27 (dk_at dksX3_blockPower_0 1 rfl rfl)
theorem dX3_blockPower_2 : decode cX3_blockPower 2 = .ok (.iload_n 2, 1) := dk_28 (dk_at dksX3_blockPower_0 2 rfl rfl)
theorem dX3_blockPower_3 : decode cX3_blockPower 3 = .ok (.aload_n 0, 1) := dk_42 (dk_at dksX3_blockPower_0 3 rfl rfl)
theorem dX3_blockPower_4 : decode cX3_blockPower 4 = .ok (.iload_n 1, 1) := dk_27 (dk_at dksX3_blockPower_0 4 rfl rfl)
theorem dX3_blockPower_5 : decode cX3_blockPower 5 = .ok (.invokevirtual 192, 3) := dk_182 0 192 (dk_at dksX3_blockPower_0 5 rfl rfl)
theorem dX3_blockPower_8 : decode cX3_blockPower 8 = .ok (.iload_n 2, 1) := dk_28 (dk_at dksX3_blockPower_0 8 rfl rfl)
theorem dX3_blockPower_9 : decode cX3_blockPower 9 = .ok (.iload_n 3, 1) := dk_29 (dk_at dksX3_blockPower_0 9 rfl rfl)
theorem dX3_blockPower_10 : decode cX3_blockPower 10 = .ok (.iadd, 1) := dk_96 (dk_at dksX3_blockPower_0 10 rfl rfl)
theorem dX3_blockPower_11 : decode cX3_blockPower 11 = .ok (.invokestatic 165, 3) := dk_184 0 165 (dk_at dksX3_blockPower_0 11 rfl rfl)
theorem dX3_blockPower_14 : decode cX3_blockPower 14 = .ok (.invokevirtual 195, 3) := dk_182 0 195 (dk_at dksX3_blockPower_0 14 rfl rfl)
theorem dX3_blockPower_17 : decode cX3_blockPower 17 = .ok (.iload_n 3, 1) := dk_29 (dk_at dksX3_blockPower_0 17 rfl rfl)
theorem dX3_blockPower_18 : decode cX3_blockPower 18 = .ok (.i2l, 1) := dk_133 (dk_at dksX3_blockPower_0 18 rfl rfl)
theorem dX3_blockPower_19 : decode cX3_blockPower 19 = .ok (.ldiv, 1) := dk_109 (dk_at dksX3_blockPower_0 19 rfl rfl)
theorem dX3_blockPower_20 : decode cX3_blockPower 20 = .ok (.lreturn, 1) := dk_173 (dk_at dksX3_blockPower_0 20 rfl rfl)
abbrev cX3_blockBest : ByteArray := prog_9_method_22_code
def yX3_blockBest : MethodName := ⟨RX3, "blockBest", "(II)I"⟩
def dkwX3_blockBest_0 : List UInt8 := [42, 180, 0, 23, 182, 0, 199, 42, 27, 28, 186, 0, 227, 0, 0, 184, 0, 213, 172]
abbrev dktX3_blockBest_0 : List UInt8 := dkwX3_blockBest_0 ++ []
theorem dksX3_blockBest_0 : cX3_blockBest.data.toList.drop 0 = dktX3_blockBest_0 := by decide +kernel
theorem dX3_blockBest_0 : decode cX3_blockBest 0 = .ok (.aload_n 0, 1) := dk_42 (dk_at dksX3_blockBest_0 0 rfl rfl)
theorem dX3_blockBest_1 : decode cX3_blockBest 1 = .ok (.getfield 23, 3) := dk_180 0 23 (dk_at dksX3_blockBest_0 1 rfl rfl)
theorem dX3_blockBest_4 : decode cX3_blockBest 4 = .ok (.invokevirtual 199, 3) := dk_182 0 199 (dk_at dksX3_blockBest_0 4 rfl rfl)
theorem dX3_blockBest_7 : decode cX3_blockBest 7 = .ok (.aload_n 0, 1) := dk_42 (dk_at dksX3_blockBest_0 7 rfl rfl)
theorem dX3_blockBest_8 : decode cX3_blockBest 8 = .ok (.iload_n 1, 1) := dk_27 (dk_at dksX3_blockBest_0 8 rfl rfl)
theorem dX3_blockBest_9 : decode cX3_blockBest 9 = .ok (.iload_n 2, 1) := dk_28 (dk_at dksX3_blockBest_0 9 rfl rfl)
theorem dX3_blockBest_10 : decode cX3_blockBest 10 = .ok (.invokedynamic 227, 5) := by decide +kernel
theorem dX3_blockBest_15 : decode cX3_blockBest 15 = .ok (.invokestatic 213, 3) := dk_184 0 213 (dk_at dksX3_blockBest_0 15 rfl rfl)
theorem dX3_blockBest_18 : decode cX3_blockBest 18 = .ok (.ireturn, 1) := dk_172 (dk_at dksX3_blockBest_0 18 rfl rfl)
abbrev cX3_lambda_blockBest_1 : ByteArray := prog_9_method_37_code
def yX3_lambda_blockBest_1 : MethodName := ⟨RX3, "lambda$blockBest$1", "(III)J"⟩
def dkwX3_lambda_blockBest_1_0 : List UInt8 := [42, 29, 27, 28, 182, 0, 242, 173]
abbrev dktX3_lambda_blockBest_1_0 : List UInt8 := dkwX3_lambda_blockBest_1_0 ++ []
theorem dksX3_lambda_blockBest_1_0 : cX3_lambda_blockBest_1.data.toList.drop 0 = dktX3_lambda_blockBest_1_0 := by decide +kernel
theorem dX3_lambda_blockBest_1_0 : decode cX3_lambda_blockBest_1 0 = .ok (.aload_n 0, 1) := dk_42 (dk_at dksX3_lambda_blockBest_1_0 0 rfl rfl)
theorem dX3_lambda_blockBest_1_1 : decode cX3_lambda_blockBest_1 1 = .ok (.iload_n 3, 1) := dk_29 (dk_at dksX3_lambda_blockBest_1_0 1 rfl rfl)
theorem dX3_lambda_blockBest_1_2 : decode cX3_lambda_blockBest_1 2 = .ok (.iload_n 1, 1) := dk_27 (dk_at dksX3_lambda_blockBest_1_0 2 rfl rfl)
theorem dX3_lambda_blockBest_1_3 : decode cX3_lambda_blockBest_1 3 = .ok (.iload_n 2, 1) := dk_28 (dk_at dksX3_lambda_blockBest_1_0 3 rfl rfl)
theorem dX3_lambda_blockBest_1_4 : decode cX3_lambda_blockBest_1 4 = .ok (.invokevirtual 242, 3) := dk_182 0 242 (dk_at dksX3_lambda_blockBest_1_0 4 rfl rfl)
theorem dX3_lambda_blockBest_1_7 : decode cX3_lambda_blockBest_1 7 = .ok (.lreturn, 1) := dk_173 (dk_at dksX3_lambda_blockBest_1_0 7 rfl rfl)
abbrev cX3_scores : ByteArray := prog_9_method_24_code
def yX3_scores : MethodName := ⟨RX3, "scores", "(I)[[J"⟩
def dkwX3_scores_4 : List UInt8 := [80, 132, 4, 1, 167, 255, 191, 132, 3, 255, 167, 255, 178, 44, 176]
abbrev dktX3_scores_4 : List UInt8 := dkwX3_scores_4 ++ []
def dkwX3_scores_3 : List UInt8 := [182, 0, 238, 47, 55, 5, 44, 29, 50, 21, 4, 42, 21, 4, 29, 27, 104, 27, 182, 0, 242, 22, 5, 97]
abbrev dktX3_scores_3 : List UInt8 := dkwX3_scores_3 ++ dktX3_scores_4
def dkwX3_scores_2 : List UInt8 := [4, 100, 160, 0, 7, 9, 167, 0, 20, 44, 29, 4, 96, 50, 42, 44, 29, 4, 96, 50, 21, 4]
abbrev dktX3_scores_2 : List UInt8 := dkwX3_scores_2 ++ dktX3_scores_3
def dkwX3_scores_1 : List UInt8 := [100, 62, 29, 155, 0, 80, 3, 54, 4, 21, 4, 42, 180, 0, 23, 182, 0, 199, 162, 0, 59, 29, 44, 190]
abbrev dktX3_scores_1 : List UInt8 := dkwX3_scores_1 ++ dktX3_scores_2
def dkwX3_scores_0 : List UInt8 := [42, 180, 0, 23, 180, 0, 69, 27, 108, 42, 180, 0, 23, 182, 0, 199, 197, 0, 236, 2, 77, 44, 190, 4]
abbrev dktX3_scores_0 : List UInt8 := dkwX3_scores_0 ++ dktX3_scores_1
theorem dksX3_scores_0 : cX3_scores.data.toList.drop 0 = dktX3_scores_0 := by decide +kernel
theorem dksX3_scores_1 : cX3_scores.data.toList.drop 24 = dktX3_scores_1 := dk_seg dksX3_scores_0 24 rfl rfl
theorem dksX3_scores_2 : cX3_scores.data.toList.drop 48 = dktX3_scores_2 := dk_seg dksX3_scores_1 24 rfl rfl
theorem dksX3_scores_3 : cX3_scores.data.toList.drop 70 = dktX3_scores_3 := dk_seg dksX3_scores_2 22 rfl rfl
theorem dksX3_scores_4 : cX3_scores.data.toList.drop 94 = dktX3_scores_4 := dk_seg dksX3_scores_3 24 rfl rfl
theorem dX3_scores_0 : decode cX3_scores 0 = .ok (.aload_n 0, 1) := dk_42 (dk_at dksX3_scores_0 0 rfl rfl)
theorem dX3_scores_1 : decode cX3_scores 1 = .ok (.getfield 23, 3) := dk_180 0 23 (dk_at dksX3_scores_0 1 rfl rfl)
theorem dX3_scores_4 : decode cX3_scores 4 = .ok (.getfield 69, 3) := dk_180 0 69 (dk_at dksX3_scores_0 4 rfl rfl)
theorem dX3_scores_7 : decode cX3_scores 7 = .ok (.iload_n 1, 1) := dk_27 (dk_at dksX3_scores_0 7 rfl rfl)
theorem dX3_scores_8 : decode cX3_scores 8 = .ok (.idiv, 1) := dk_108 (dk_at dksX3_scores_0 8 rfl rfl)
theorem dX3_scores_9 : decode cX3_scores 9 = .ok (.aload_n 0, 1) := dk_42 (dk_at dksX3_scores_0 9 rfl rfl)
theorem dX3_scores_10 : decode cX3_scores 10 = .ok (.getfield 23, 3) := dk_180 0 23 (dk_at dksX3_scores_0 10 rfl rfl)
theorem dX3_scores_13 : decode cX3_scores 13 = .ok (.invokevirtual 199, 3) := dk_182 0 199 (dk_at dksX3_scores_0 13 rfl rfl)
theorem dX3_scores_16 : decode cX3_scores 16 = .ok (.multianewarray 236 2, 4) := by decide +kernel
theorem dX3_scores_20 : decode cX3_scores 20 = .ok (.astore_n 2, 1) := dk_77 (dk_at dksX3_scores_0 20 rfl rfl)
theorem dX3_scores_21 : decode cX3_scores 21 = .ok (.aload_n 2, 1) := dk_44 (dk_at dksX3_scores_0 21 rfl rfl)
theorem dX3_scores_22 : decode cX3_scores 22 = .ok (.arraylength, 1) := dk_190 (dk_at dksX3_scores_0 22 rfl rfl)
theorem dX3_scores_23 : decode cX3_scores 23 = .ok (.iconst 1, 1) := dk_4 (dk_at dksX3_scores_0 23 rfl rfl)
theorem dX3_scores_24 : decode cX3_scores 24 = .ok (.isub, 1) := dk_100 (dk_at dksX3_scores_1 0 rfl rfl)
theorem dX3_scores_25 : decode cX3_scores 25 = .ok (.istore_n 3, 1) := dk_62 (dk_at dksX3_scores_1 1 rfl rfl)
theorem dX3_scores_26 : decode cX3_scores 26 = .ok (.iload_n 3, 1) := dk_29 (dk_at dksX3_scores_1 2 rfl rfl)
theorem dX3_scores_27 : decode cX3_scores 27 = .ok (.ifCond .lt 80, 3) := dk_155 0 80 (dk_at dksX3_scores_1 3 rfl rfl)
theorem dX3_scores_30 : decode cX3_scores 30 = .ok (.iconst 0, 1) := dk_3 (dk_at dksX3_scores_1 6 rfl rfl)
theorem dX3_scores_31 : decode cX3_scores 31 = .ok (.istore 4, 2) := dk_54 4 (dk_at dksX3_scores_1 7 rfl rfl)
theorem dX3_scores_33 : decode cX3_scores 33 = .ok (.iload 4, 2) := dk_21 4 (dk_at dksX3_scores_1 9 rfl rfl)
theorem dX3_scores_35 : decode cX3_scores 35 = .ok (.aload_n 0, 1) := dk_42 (dk_at dksX3_scores_1 11 rfl rfl)
theorem dX3_scores_36 : decode cX3_scores 36 = .ok (.getfield 23, 3) := dk_180 0 23 (dk_at dksX3_scores_1 12 rfl rfl)
theorem dX3_scores_39 : decode cX3_scores 39 = .ok (.invokevirtual 199, 3) := dk_182 0 199 (dk_at dksX3_scores_1 15 rfl rfl)
theorem dX3_scores_42 : decode cX3_scores 42 = .ok (.if_icmp .ge 59, 3) := dk_162 0 59 (dk_at dksX3_scores_1 18 rfl rfl)
theorem dX3_scores_45 : decode cX3_scores 45 = .ok (.iload_n 3, 1) := dk_29 (dk_at dksX3_scores_1 21 rfl rfl)
theorem dX3_scores_46 : decode cX3_scores 46 = .ok (.aload_n 2, 1) := dk_44 (dk_at dksX3_scores_1 22 rfl rfl)
theorem dX3_scores_47 : decode cX3_scores 47 = .ok (.arraylength, 1) := dk_190 (dk_at dksX3_scores_1 23 rfl rfl)
theorem dX3_scores_48 : decode cX3_scores 48 = .ok (.iconst 1, 1) := dk_4 (dk_at dksX3_scores_2 0 rfl rfl)
theorem dX3_scores_49 : decode cX3_scores 49 = .ok (.isub, 1) := dk_100 (dk_at dksX3_scores_2 1 rfl rfl)
theorem dX3_scores_50 : decode cX3_scores 50 = .ok (.if_icmp .ne 7, 3) := dk_160 0 7 (dk_at dksX3_scores_2 2 rfl rfl)
theorem dX3_scores_53 : decode cX3_scores 53 = .ok (.lconst 0, 1) := dk_9 (dk_at dksX3_scores_2 5 rfl rfl)
theorem dX3_scores_54 : decode cX3_scores 54 = .ok (.goto 20, 3) := dk_167 0 20 (dk_at dksX3_scores_2 6 rfl rfl)
theorem dX3_scores_57 : decode cX3_scores 57 = .ok (.aload_n 2, 1) := dk_44 (dk_at dksX3_scores_2 9 rfl rfl)
theorem dX3_scores_58 : decode cX3_scores 58 = .ok (.iload_n 3, 1) := dk_29 (dk_at dksX3_scores_2 10 rfl rfl)
theorem dX3_scores_59 : decode cX3_scores 59 = .ok (.iconst 1, 1) := dk_4 (dk_at dksX3_scores_2 11 rfl rfl)
theorem dX3_scores_60 : decode cX3_scores 60 = .ok (.iadd, 1) := dk_96 (dk_at dksX3_scores_2 12 rfl rfl)
theorem dX3_scores_61 : decode cX3_scores 61 = .ok (.aaload, 1) := dk_50 (dk_at dksX3_scores_2 13 rfl rfl)
theorem dX3_scores_62 : decode cX3_scores 62 = .ok (.aload_n 0, 1) := dk_42 (dk_at dksX3_scores_2 14 rfl rfl)
theorem dX3_scores_63 : decode cX3_scores 63 = .ok (.aload_n 2, 1) := dk_44 (dk_at dksX3_scores_2 15 rfl rfl)
theorem dX3_scores_64 : decode cX3_scores 64 = .ok (.iload_n 3, 1) := dk_29 (dk_at dksX3_scores_2 16 rfl rfl)
theorem dX3_scores_65 : decode cX3_scores 65 = .ok (.iconst 1, 1) := dk_4 (dk_at dksX3_scores_2 17 rfl rfl)
theorem dX3_scores_66 : decode cX3_scores 66 = .ok (.iadd, 1) := dk_96 (dk_at dksX3_scores_2 18 rfl rfl)
theorem dX3_scores_67 : decode cX3_scores 67 = .ok (.aaload, 1) := dk_50 (dk_at dksX3_scores_2 19 rfl rfl)
theorem dX3_scores_68 : decode cX3_scores 68 = .ok (.iload 4, 2) := dk_21 4 (dk_at dksX3_scores_2 20 rfl rfl)
theorem dX3_scores_70 : decode cX3_scores 70 = .ok (.invokevirtual 238, 3) := dk_182 0 238 (dk_at dksX3_scores_3 0 rfl rfl)
theorem dX3_scores_73 : decode cX3_scores 73 = .ok (.laload, 1) := dk_47 (dk_at dksX3_scores_3 3 rfl rfl)
theorem dX3_scores_74 : decode cX3_scores 74 = .ok (.lstore 5, 2) := dk_55 5 (dk_at dksX3_scores_3 4 rfl rfl)
theorem dX3_scores_76 : decode cX3_scores 76 = .ok (.aload_n 2, 1) := dk_44 (dk_at dksX3_scores_3 6 rfl rfl)
theorem dX3_scores_77 : decode cX3_scores 77 = .ok (.iload_n 3, 1) := dk_29 (dk_at dksX3_scores_3 7 rfl rfl)
theorem dX3_scores_78 : decode cX3_scores 78 = .ok (.aaload, 1) := dk_50 (dk_at dksX3_scores_3 8 rfl rfl)
theorem dX3_scores_79 : decode cX3_scores 79 = .ok (.iload 4, 2) := dk_21 4 (dk_at dksX3_scores_3 9 rfl rfl)
theorem dX3_scores_81 : decode cX3_scores 81 = .ok (.aload_n 0, 1) := dk_42 (dk_at dksX3_scores_3 11 rfl rfl)
theorem dX3_scores_82 : decode cX3_scores 82 = .ok (.iload 4, 2) := dk_21 4 (dk_at dksX3_scores_3 12 rfl rfl)
theorem dX3_scores_84 : decode cX3_scores 84 = .ok (.iload_n 3, 1) := dk_29 (dk_at dksX3_scores_3 14 rfl rfl)
theorem dX3_scores_85 : decode cX3_scores 85 = .ok (.iload_n 1, 1) := dk_27 (dk_at dksX3_scores_3 15 rfl rfl)
theorem dX3_scores_86 : decode cX3_scores 86 = .ok (.imul, 1) := dk_104 (dk_at dksX3_scores_3 16 rfl rfl)
theorem dX3_scores_87 : decode cX3_scores 87 = .ok (.iload_n 1, 1) := dk_27 (dk_at dksX3_scores_3 17 rfl rfl)
theorem dX3_scores_88 : decode cX3_scores 88 = .ok (.invokevirtual 242, 3) := dk_182 0 242 (dk_at dksX3_scores_3 18 rfl rfl)
theorem dX3_scores_91 : decode cX3_scores 91 = .ok (.lload 5, 2) := dk_22 5 (dk_at dksX3_scores_3 21 rfl rfl)
theorem dX3_scores_93 : decode cX3_scores 93 = .ok (.ladd, 1) := dk_97 (dk_at dksX3_scores_3 23 rfl rfl)
theorem dX3_scores_94 : decode cX3_scores 94 = .ok (.lastore, 1) := dk_80 (dk_at dksX3_scores_4 0 rfl rfl)
theorem dX3_scores_95 : decode cX3_scores 95 = .ok (.iinc 4 1, 3) := dk_132 4 1 (dk_at dksX3_scores_4 1 rfl rfl)
theorem dX3_scores_98 : decode cX3_scores 98 = .ok (.goto (-65), 3) := dk_167 255 191 (dk_at dksX3_scores_4 4 rfl rfl)
theorem dX3_scores_101 : decode cX3_scores 101 = .ok (.iinc 3 (-1), 3) := dk_132 3 255 (dk_at dksX3_scores_4 7 rfl rfl)
theorem dX3_scores_104 : decode cX3_scores 104 = .ok (.goto (-78), 3) := dk_167 255 178 (dk_at dksX3_scores_4 10 rfl rfl)
theorem dX3_scores_107 : decode cX3_scores 107 = .ok (.aload_n 2, 1) := dk_44 (dk_at dksX3_scores_4 13 rfl rfl)
theorem dX3_scores_108 : decode cX3_scores 108 = .ok (.areturn, 1) := dk_176 (dk_at dksX3_scores_4 14 rfl rfl)
abbrev cX3_next : ByteArray := prog_9_method_25_code
def yX3_next : MethodName := ⟨RX3, "next", "([JI)I"⟩
def dkwX3_next_2 : List UInt8 := [172]
abbrev dktX3_next_2 : List UInt8 := dkwX3_next_2 ++ []
def dkwX3_next_1 : List UInt8 := [159, 0, 14, 43, 21, 4, 47, 43, 29, 47, 148, 158, 0, 6, 21, 4, 62, 132, 4, 1, 167, 255, 217, 29]
abbrev dktX3_next_1 : List UInt8 := dkwX3_next_1 ++ dktX3_next_2
def dkwX3_next_0 : List UInt8 := [2, 62, 3, 54, 4, 21, 4, 43, 190, 162, 0, 38, 42, 28, 21, 4, 182, 0, 245, 153, 0, 22, 29, 2]
abbrev dktX3_next_0 : List UInt8 := dkwX3_next_0 ++ dktX3_next_1
theorem dksX3_next_0 : cX3_next.data.toList.drop 0 = dktX3_next_0 := by decide +kernel
theorem dksX3_next_1 : cX3_next.data.toList.drop 24 = dktX3_next_1 := dk_seg dksX3_next_0 24 rfl rfl
theorem dksX3_next_2 : cX3_next.data.toList.drop 48 = dktX3_next_2 := dk_seg dksX3_next_1 24 rfl rfl
theorem dX3_next_0 : decode cX3_next 0 = .ok (.iconst (-1), 1) := dk_2 (dk_at dksX3_next_0 0 rfl rfl)
theorem dX3_next_1 : decode cX3_next 1 = .ok (.istore_n 3, 1) := dk_62 (dk_at dksX3_next_0 1 rfl rfl)
theorem dX3_next_2 : decode cX3_next 2 = .ok (.iconst 0, 1) := dk_3 (dk_at dksX3_next_0 2 rfl rfl)
theorem dX3_next_3 : decode cX3_next 3 = .ok (.istore 4, 2) := dk_54 4 (dk_at dksX3_next_0 3 rfl rfl)
theorem dX3_next_5 : decode cX3_next 5 = .ok (.iload 4, 2) := dk_21 4 (dk_at dksX3_next_0 5 rfl rfl)
theorem dX3_next_7 : decode cX3_next 7 = .ok (.aload_n 1, 1) := dk_43 (dk_at dksX3_next_0 7 rfl rfl)
theorem dX3_next_8 : decode cX3_next 8 = .ok (.arraylength, 1) := dk_190 (dk_at dksX3_next_0 8 rfl rfl)
theorem dX3_next_9 : decode cX3_next 9 = .ok (.if_icmp .ge 38, 3) := dk_162 0 38 (dk_at dksX3_next_0 9 rfl rfl)
theorem dX3_next_12 : decode cX3_next 12 = .ok (.aload_n 0, 1) := dk_42 (dk_at dksX3_next_0 12 rfl rfl)
theorem dX3_next_13 : decode cX3_next 13 = .ok (.iload_n 2, 1) := dk_28 (dk_at dksX3_next_0 13 rfl rfl)
theorem dX3_next_14 : decode cX3_next 14 = .ok (.iload 4, 2) := dk_21 4 (dk_at dksX3_next_0 14 rfl rfl)
theorem dX3_next_16 : decode cX3_next 16 = .ok (.invokevirtual 245, 3) := dk_182 0 245 (dk_at dksX3_next_0 16 rfl rfl)
theorem dX3_next_19 : decode cX3_next 19 = .ok (.ifCond .eq 22, 3) := dk_153 0 22 (dk_at dksX3_next_0 19 rfl rfl)
theorem dX3_next_22 : decode cX3_next 22 = .ok (.iload_n 3, 1) := dk_29 (dk_at dksX3_next_0 22 rfl rfl)
theorem dX3_next_23 : decode cX3_next 23 = .ok (.iconst (-1), 1) := dk_2 (dk_at dksX3_next_0 23 rfl rfl)
theorem dX3_next_24 : decode cX3_next 24 = .ok (.if_icmp .eq 14, 3) := dk_159 0 14 (dk_at dksX3_next_1 0 rfl rfl)
theorem dX3_next_27 : decode cX3_next 27 = .ok (.aload_n 1, 1) := dk_43 (dk_at dksX3_next_1 3 rfl rfl)
theorem dX3_next_28 : decode cX3_next 28 = .ok (.iload 4, 2) := dk_21 4 (dk_at dksX3_next_1 4 rfl rfl)
theorem dX3_next_30 : decode cX3_next 30 = .ok (.laload, 1) := dk_47 (dk_at dksX3_next_1 6 rfl rfl)
theorem dX3_next_31 : decode cX3_next 31 = .ok (.aload_n 1, 1) := dk_43 (dk_at dksX3_next_1 7 rfl rfl)
theorem dX3_next_32 : decode cX3_next 32 = .ok (.iload_n 3, 1) := dk_29 (dk_at dksX3_next_1 8 rfl rfl)
theorem dX3_next_33 : decode cX3_next 33 = .ok (.laload, 1) := dk_47 (dk_at dksX3_next_1 9 rfl rfl)
theorem dX3_next_34 : decode cX3_next 34 = .ok (.lcmp, 1) := dk_148 (dk_at dksX3_next_1 10 rfl rfl)
theorem dX3_next_35 : decode cX3_next 35 = .ok (.ifCond .le 6, 3) := dk_158 0 6 (dk_at dksX3_next_1 11 rfl rfl)
theorem dX3_next_38 : decode cX3_next 38 = .ok (.iload 4, 2) := dk_21 4 (dk_at dksX3_next_1 14 rfl rfl)
theorem dX3_next_40 : decode cX3_next 40 = .ok (.istore_n 3, 1) := dk_62 (dk_at dksX3_next_1 16 rfl rfl)
theorem dX3_next_41 : decode cX3_next 41 = .ok (.iinc 4 1, 3) := dk_132 4 1 (dk_at dksX3_next_1 17 rfl rfl)
theorem dX3_next_44 : decode cX3_next 44 = .ok (.goto (-39), 3) := dk_167 255 217 (dk_at dksX3_next_1 20 rfl rfl)
theorem dX3_next_47 : decode cX3_next 47 = .ok (.iload_n 3, 1) := dk_29 (dk_at dksX3_next_1 23 rfl rfl)
theorem dX3_next_48 : decode cX3_next 48 = .ok (.ireturn, 1) := dk_172 (dk_at dksX3_next_2 0 rfl rfl)
abbrev cX3_areNear : ByteArray := prog_9_method_23_code
def yX3_areNear : MethodName := ⟨RX3, "areNear", "(II)Z"⟩
def dkwX3_areNear_2 : List UInt8 := [180, 0, 23, 180, 0, 230, 108, 100, 184, 0, 233, 4, 163, 0, 7, 4, 167, 0, 4, 3, 172]
abbrev dktX3_areNear_2 : List UInt8 := dkwX3_areNear_2 ++ []
def dkwX3_areNear_1 : List UInt8 := [163, 0, 7, 4, 167, 0, 4, 3, 62, 29, 153, 0, 33, 27, 42, 180, 0, 23, 180, 0, 230, 108, 28, 42]
abbrev dktX3_areNear_1 : List UInt8 := dkwX3_areNear_1 ++ dktX3_areNear_2
def dkwX3_areNear_0 : List UInt8 := [27, 42, 180, 0, 23, 180, 0, 230, 112, 28, 42, 180, 0, 23, 180, 0, 230, 112, 100, 184, 0, 233, 4]
abbrev dktX3_areNear_0 : List UInt8 := dkwX3_areNear_0 ++ dktX3_areNear_1
theorem dksX3_areNear_0 : cX3_areNear.data.toList.drop 0 = dktX3_areNear_0 := by decide +kernel
theorem dksX3_areNear_1 : cX3_areNear.data.toList.drop 23 = dktX3_areNear_1 := dk_seg dksX3_areNear_0 23 rfl rfl
theorem dksX3_areNear_2 : cX3_areNear.data.toList.drop 47 = dktX3_areNear_2 := dk_seg dksX3_areNear_1 24 rfl rfl
theorem dX3_areNear_0 : decode cX3_areNear 0 = .ok (.iload_n 1, 1) := dk_27 (dk_at dksX3_areNear_0 0 rfl rfl)
theorem dX3_areNear_1 : decode cX3_areNear 1 = .ok (.aload_n 0, 1) := dk_42 (dk_at dksX3_areNear_0 1 rfl rfl)
theorem dX3_areNear_2 : decode cX3_areNear 2 = .ok (.getfield 23, 3) := dk_180 0 23 (dk_at dksX3_areNear_0 2 rfl rfl)
theorem dX3_areNear_5 : decode cX3_areNear 5 = .ok (.getfield 230, 3) := dk_180 0 230 (dk_at dksX3_areNear_0 5 rfl rfl)
theorem dX3_areNear_8 : decode cX3_areNear 8 = .ok (.irem, 1) := dk_112 (dk_at dksX3_areNear_0 8 rfl rfl)
theorem dX3_areNear_9 : decode cX3_areNear 9 = .ok (.iload_n 2, 1) := dk_28 (dk_at dksX3_areNear_0 9 rfl rfl)
theorem dX3_areNear_10 : decode cX3_areNear 10 = .ok (.aload_n 0, 1) := dk_42 (dk_at dksX3_areNear_0 10 rfl rfl)
theorem dX3_areNear_11 : decode cX3_areNear 11 = .ok (.getfield 23, 3) := dk_180 0 23 (dk_at dksX3_areNear_0 11 rfl rfl)
theorem dX3_areNear_14 : decode cX3_areNear 14 = .ok (.getfield 230, 3) := dk_180 0 230 (dk_at dksX3_areNear_0 14 rfl rfl)
theorem dX3_areNear_17 : decode cX3_areNear 17 = .ok (.irem, 1) := dk_112 (dk_at dksX3_areNear_0 17 rfl rfl)
theorem dX3_areNear_18 : decode cX3_areNear 18 = .ok (.isub, 1) := dk_100 (dk_at dksX3_areNear_0 18 rfl rfl)
theorem dX3_areNear_19 : decode cX3_areNear 19 = .ok (.invokestatic 233, 3) := dk_184 0 233 (dk_at dksX3_areNear_0 19 rfl rfl)
theorem dX3_areNear_22 : decode cX3_areNear 22 = .ok (.iconst 1, 1) := dk_4 (dk_at dksX3_areNear_0 22 rfl rfl)
theorem dX3_areNear_23 : decode cX3_areNear 23 = .ok (.if_icmp .gt 7, 3) := dk_163 0 7 (dk_at dksX3_areNear_1 0 rfl rfl)
theorem dX3_areNear_26 : decode cX3_areNear 26 = .ok (.iconst 1, 1) := dk_4 (dk_at dksX3_areNear_1 3 rfl rfl)
theorem dX3_areNear_27 : decode cX3_areNear 27 = .ok (.goto 4, 3) := dk_167 0 4 (dk_at dksX3_areNear_1 4 rfl rfl)
theorem dX3_areNear_30 : decode cX3_areNear 30 = .ok (.iconst 0, 1) := dk_3 (dk_at dksX3_areNear_1 7 rfl rfl)
theorem dX3_areNear_31 : decode cX3_areNear 31 = .ok (.istore_n 3, 1) := dk_62 (dk_at dksX3_areNear_1 8 rfl rfl)
theorem dX3_areNear_32 : decode cX3_areNear 32 = .ok (.iload_n 3, 1) := dk_29 (dk_at dksX3_areNear_1 9 rfl rfl)
theorem dX3_areNear_33 : decode cX3_areNear 33 = .ok (.ifCond .eq 33, 3) := dk_153 0 33 (dk_at dksX3_areNear_1 10 rfl rfl)
theorem dX3_areNear_36 : decode cX3_areNear 36 = .ok (.iload_n 1, 1) := dk_27 (dk_at dksX3_areNear_1 13 rfl rfl)
theorem dX3_areNear_37 : decode cX3_areNear 37 = .ok (.aload_n 0, 1) := dk_42 (dk_at dksX3_areNear_1 14 rfl rfl)
theorem dX3_areNear_38 : decode cX3_areNear 38 = .ok (.getfield 23, 3) := dk_180 0 23 (dk_at dksX3_areNear_1 15 rfl rfl)
theorem dX3_areNear_41 : decode cX3_areNear 41 = .ok (.getfield 230, 3) := dk_180 0 230 (dk_at dksX3_areNear_1 18 rfl rfl)
theorem dX3_areNear_44 : decode cX3_areNear 44 = .ok (.idiv, 1) := dk_108 (dk_at dksX3_areNear_1 21 rfl rfl)
theorem dX3_areNear_45 : decode cX3_areNear 45 = .ok (.iload_n 2, 1) := dk_28 (dk_at dksX3_areNear_1 22 rfl rfl)
theorem dX3_areNear_46 : decode cX3_areNear 46 = .ok (.aload_n 0, 1) := dk_42 (dk_at dksX3_areNear_1 23 rfl rfl)
theorem dX3_areNear_47 : decode cX3_areNear 47 = .ok (.getfield 23, 3) := dk_180 0 23 (dk_at dksX3_areNear_2 0 rfl rfl)
theorem dX3_areNear_50 : decode cX3_areNear 50 = .ok (.getfield 230, 3) := dk_180 0 230 (dk_at dksX3_areNear_2 3 rfl rfl)
theorem dX3_areNear_53 : decode cX3_areNear 53 = .ok (.idiv, 1) := dk_108 (dk_at dksX3_areNear_2 6 rfl rfl)
theorem dX3_areNear_54 : decode cX3_areNear 54 = .ok (.isub, 1) := dk_100 (dk_at dksX3_areNear_2 7 rfl rfl)
theorem dX3_areNear_55 : decode cX3_areNear 55 = .ok (.invokestatic 233, 3) := dk_184 0 233 (dk_at dksX3_areNear_2 8 rfl rfl)
theorem dX3_areNear_58 : decode cX3_areNear 58 = .ok (.iconst 1, 1) := dk_4 (dk_at dksX3_areNear_2 11 rfl rfl)
theorem dX3_areNear_59 : decode cX3_areNear 59 = .ok (.if_icmp .gt 7, 3) := dk_163 0 7 (dk_at dksX3_areNear_2 12 rfl rfl)
theorem dX3_areNear_62 : decode cX3_areNear 62 = .ok (.iconst 1, 1) := dk_4 (dk_at dksX3_areNear_2 15 rfl rfl)
theorem dX3_areNear_63 : decode cX3_areNear 63 = .ok (.goto 4, 3) := dk_167 0 4 (dk_at dksX3_areNear_2 16 rfl rfl)
theorem dX3_areNear_66 : decode cX3_areNear 66 = .ok (.iconst 0, 1) := dk_3 (dk_at dksX3_areNear_2 19 rfl rfl)
theorem dX3_areNear_67 : decode cX3_areNear 67 = .ok (.ireturn, 1) := dk_172 (dk_at dksX3_areNear_2 20 rfl rfl)
abbrev cX3_movingPower : ByteArray := prog_9_method_20_code
def yX3_movingPower : MethodName := ⟨RX3, "movingPower", "(III)J"⟩
def dkwX3_movingPower_1 : List UInt8 := [180, 0, 69, 182, 0, 217, 173]
abbrev dktX3_movingPower_1 : List UInt8 := dkwX3_movingPower_1 ++ []
def dkwX3_movingPower_0 : List UInt8 := [42, 42, 180, 0, 23, 27, 182, 0, 221, 42, 180, 0, 23, 27, 182, 0, 224, 28, 29, 42, 180, 0, 23]
abbrev dktX3_movingPower_0 : List UInt8 := dkwX3_movingPower_0 ++ dktX3_movingPower_1
theorem dksX3_movingPower_0 : cX3_movingPower.data.toList.drop 0 = dktX3_movingPower_0 := by decide +kernel
theorem dksX3_movingPower_1 : cX3_movingPower.data.toList.drop 23 = dktX3_movingPower_1 := dk_seg dksX3_movingPower_0 23 rfl rfl
theorem dX3_movingPower_0 : decode cX3_movingPower 0 = .ok (.aload_n 0, 1) := dk_42 (dk_at dksX3_movingPower_0 0 rfl rfl)
theorem dX3_movingPower_1 : decode cX3_movingPower 1 = .ok (.aload_n 0, 1) := dk_42 (dk_at dksX3_movingPower_0 1 rfl rfl)
theorem dX3_movingPower_2 : decode cX3_movingPower 2 = .ok (.getfield 23, 3) := dk_180 0 23 (dk_at dksX3_movingPower_0 2 rfl rfl)
theorem dX3_movingPower_5 : decode cX3_movingPower 5 = .ok (.iload_n 1, 1) := dk_27 (dk_at dksX3_movingPower_0 5 rfl rfl)
theorem dX3_movingPower_6 : decode cX3_movingPower 6 = .ok (.invokevirtual 221, 3) := dk_182 0 221 (dk_at dksX3_movingPower_0 6 rfl rfl)
theorem dX3_movingPower_9 : decode cX3_movingPower 9 = .ok (.aload_n 0, 1) := dk_42 (dk_at dksX3_movingPower_0 9 rfl rfl)
theorem dX3_movingPower_10 : decode cX3_movingPower 10 = .ok (.getfield 23, 3) := dk_180 0 23 (dk_at dksX3_movingPower_0 10 rfl rfl)
theorem dX3_movingPower_13 : decode cX3_movingPower 13 = .ok (.iload_n 1, 1) := dk_27 (dk_at dksX3_movingPower_0 13 rfl rfl)
theorem dX3_movingPower_14 : decode cX3_movingPower 14 = .ok (.invokevirtual 224, 3) := dk_182 0 224 (dk_at dksX3_movingPower_0 14 rfl rfl)
theorem dX3_movingPower_17 : decode cX3_movingPower 17 = .ok (.iload_n 2, 1) := dk_28 (dk_at dksX3_movingPower_0 17 rfl rfl)
theorem dX3_movingPower_18 : decode cX3_movingPower 18 = .ok (.iload_n 3, 1) := dk_29 (dk_at dksX3_movingPower_0 18 rfl rfl)
theorem dX3_movingPower_19 : decode cX3_movingPower 19 = .ok (.aload_n 0, 1) := dk_42 (dk_at dksX3_movingPower_0 19 rfl rfl)
theorem dX3_movingPower_20 : decode cX3_movingPower 20 = .ok (.getfield 23, 3) := dk_180 0 23 (dk_at dksX3_movingPower_0 20 rfl rfl)
theorem dX3_movingPower_23 : decode cX3_movingPower 23 = .ok (.getfield 69, 3) := dk_180 0 69 (dk_at dksX3_movingPower_1 0 rfl rfl)
theorem dX3_movingPower_26 : decode cX3_movingPower 26 = .ok (.invokevirtual 217, 3) := dk_182 0 217 (dk_at dksX3_movingPower_1 3 rfl rfl)
theorem dX3_movingPower_29 : decode cX3_movingPower 29 = .ok (.lreturn, 1) := dk_173 (dk_at dksX3_movingPower_1 6 rfl rfl)
abbrev cX3_correlation : ByteArray := prog_9_method_34_code
def yX3_correlation : MethodName := ⟨RX3, "correlation", "(III)J"⟩
def dkwX3_correlation_2 : List UInt8 := [55, 4, 132, 6, 1, 167, 255, 211, 22, 4, 173]
abbrev dktX3_correlation_2 : List UInt8 := dkwX3_correlation_2 ++ []
def dkwX3_correlation_1 : List UInt8 := [180, 0, 75, 27, 50, 21, 6, 46, 133, 42, 180, 0, 75, 28, 50, 21, 6, 29, 96, 46, 133, 105, 97]
abbrev dktX3_correlation_1 : List UInt8 := dkwX3_correlation_1 ++ dktX3_correlation_2
def dkwX3_correlation_0 : List UInt8 := [9, 55, 4, 3, 54, 6, 21, 6, 29, 96, 42, 180, 0, 23, 180, 0, 69, 162, 0, 37, 22, 4, 42]
abbrev dktX3_correlation_0 : List UInt8 := dkwX3_correlation_0 ++ dktX3_correlation_1
theorem dksX3_correlation_0 : cX3_correlation.data.toList.drop 0 = dktX3_correlation_0 := by decide +kernel
theorem dksX3_correlation_1 : cX3_correlation.data.toList.drop 23 = dktX3_correlation_1 := dk_seg dksX3_correlation_0 23 rfl rfl
theorem dksX3_correlation_2 : cX3_correlation.data.toList.drop 46 = dktX3_correlation_2 := dk_seg dksX3_correlation_1 23 rfl rfl
theorem dX3_correlation_0 : decode cX3_correlation 0 = .ok (.lconst 0, 1) := dk_9 (dk_at dksX3_correlation_0 0 rfl rfl)
theorem dX3_correlation_1 : decode cX3_correlation 1 = .ok (.lstore 4, 2) := dk_55 4 (dk_at dksX3_correlation_0 1 rfl rfl)
theorem dX3_correlation_3 : decode cX3_correlation 3 = .ok (.iconst 0, 1) := dk_3 (dk_at dksX3_correlation_0 3 rfl rfl)
theorem dX3_correlation_4 : decode cX3_correlation 4 = .ok (.istore 6, 2) := dk_54 6 (dk_at dksX3_correlation_0 4 rfl rfl)
theorem dX3_correlation_6 : decode cX3_correlation 6 = .ok (.iload 6, 2) := dk_21 6 (dk_at dksX3_correlation_0 6 rfl rfl)
theorem dX3_correlation_8 : decode cX3_correlation 8 = .ok (.iload_n 3, 1) := dk_29 (dk_at dksX3_correlation_0 8 rfl rfl)
theorem dX3_correlation_9 : decode cX3_correlation 9 = .ok (.iadd, 1) := dk_96 (dk_at dksX3_correlation_0 9 rfl rfl)
theorem dX3_correlation_10 : decode cX3_correlation 10 = .ok (.aload_n 0, 1) := dk_42 (dk_at dksX3_correlation_0 10 rfl rfl)
theorem dX3_correlation_11 : decode cX3_correlation 11 = .ok (.getfield 23, 3) := dk_180 0 23 (dk_at dksX3_correlation_0 11 rfl rfl)
theorem dX3_correlation_14 : decode cX3_correlation 14 = .ok (.getfield 69, 3) := dk_180 0 69 (dk_at dksX3_correlation_0 14 rfl rfl)
theorem dX3_correlation_17 : decode cX3_correlation 17 = .ok (.if_icmp .ge 37, 3) := dk_162 0 37 (dk_at dksX3_correlation_0 17 rfl rfl)
theorem dX3_correlation_20 : decode cX3_correlation 20 = .ok (.lload 4, 2) := dk_22 4 (dk_at dksX3_correlation_0 20 rfl rfl)
theorem dX3_correlation_22 : decode cX3_correlation 22 = .ok (.aload_n 0, 1) := dk_42 (dk_at dksX3_correlation_0 22 rfl rfl)
theorem dX3_correlation_23 : decode cX3_correlation 23 = .ok (.getfield 75, 3) := dk_180 0 75 (dk_at dksX3_correlation_1 0 rfl rfl)
theorem dX3_correlation_26 : decode cX3_correlation 26 = .ok (.iload_n 1, 1) := dk_27 (dk_at dksX3_correlation_1 3 rfl rfl)
theorem dX3_correlation_27 : decode cX3_correlation 27 = .ok (.aaload, 1) := dk_50 (dk_at dksX3_correlation_1 4 rfl rfl)
theorem dX3_correlation_28 : decode cX3_correlation 28 = .ok (.iload 6, 2) := dk_21 6 (dk_at dksX3_correlation_1 5 rfl rfl)
theorem dX3_correlation_30 : decode cX3_correlation 30 = .ok (.iaload, 1) := dk_46 (dk_at dksX3_correlation_1 7 rfl rfl)
theorem dX3_correlation_31 : decode cX3_correlation 31 = .ok (.i2l, 1) := dk_133 (dk_at dksX3_correlation_1 8 rfl rfl)
theorem dX3_correlation_32 : decode cX3_correlation 32 = .ok (.aload_n 0, 1) := dk_42 (dk_at dksX3_correlation_1 9 rfl rfl)
theorem dX3_correlation_33 : decode cX3_correlation 33 = .ok (.getfield 75, 3) := dk_180 0 75 (dk_at dksX3_correlation_1 10 rfl rfl)
theorem dX3_correlation_36 : decode cX3_correlation 36 = .ok (.iload_n 2, 1) := dk_28 (dk_at dksX3_correlation_1 13 rfl rfl)
theorem dX3_correlation_37 : decode cX3_correlation 37 = .ok (.aaload, 1) := dk_50 (dk_at dksX3_correlation_1 14 rfl rfl)
theorem dX3_correlation_38 : decode cX3_correlation 38 = .ok (.iload 6, 2) := dk_21 6 (dk_at dksX3_correlation_1 15 rfl rfl)
theorem dX3_correlation_40 : decode cX3_correlation 40 = .ok (.iload_n 3, 1) := dk_29 (dk_at dksX3_correlation_1 17 rfl rfl)
theorem dX3_correlation_41 : decode cX3_correlation 41 = .ok (.iadd, 1) := dk_96 (dk_at dksX3_correlation_1 18 rfl rfl)
theorem dX3_correlation_42 : decode cX3_correlation 42 = .ok (.iaload, 1) := dk_46 (dk_at dksX3_correlation_1 19 rfl rfl)
theorem dX3_correlation_43 : decode cX3_correlation 43 = .ok (.i2l, 1) := dk_133 (dk_at dksX3_correlation_1 20 rfl rfl)
theorem dX3_correlation_44 : decode cX3_correlation 44 = .ok (.lmul, 1) := dk_105 (dk_at dksX3_correlation_1 21 rfl rfl)
theorem dX3_correlation_45 : decode cX3_correlation 45 = .ok (.ladd, 1) := dk_97 (dk_at dksX3_correlation_1 22 rfl rfl)
theorem dX3_correlation_46 : decode cX3_correlation 46 = .ok (.lstore 4, 2) := dk_55 4 (dk_at dksX3_correlation_2 0 rfl rfl)
theorem dX3_correlation_48 : decode cX3_correlation 48 = .ok (.iinc 6 1, 3) := dk_132 6 1 (dk_at dksX3_correlation_2 2 rfl rfl)
theorem dX3_correlation_51 : decode cX3_correlation 51 = .ok (.goto (-45), 3) := dk_167 255 211 (dk_at dksX3_correlation_2 5 rfl rfl)
theorem dX3_correlation_54 : decode cX3_correlation 54 = .ok (.lload 4, 2) := dk_22 4 (dk_at dksX3_correlation_2 8 rfl rfl)
theorem dX3_correlation_56 : decode cX3_correlation 56 = .ok (.lreturn, 1) := dk_173 (dk_at dksX3_correlation_2 10 rfl rfl)
abbrev cX3_level : ByteArray := prog_9_method_33_code
def yX3_level : MethodName := ⟨RX3, "level", "(I)J"⟩
def dkwX3_level_2 : List UInt8 := [167, 255, 230, 32, 42, 180, 0, 23, 180, 0, 69, 133, 109, 173]
abbrev dktX3_level_2 : List UInt8 := dkwX3_level_2 ++ []
def dkwX3_level_1 : List UInt8 := [162, 0, 25, 25, 4, 21, 6, 46, 133, 55, 7, 32, 22, 7, 22, 7, 105, 97, 65, 132, 6, 1]
abbrev dktX3_level_1 : List UInt8 := dkwX3_level_1 ++ dktX3_level_2
def dkwX3_level_0 : List UInt8 := [9, 65, 42, 180, 0, 75, 27, 50, 58, 4, 25, 4, 190, 54, 5, 3, 54, 6, 21, 6, 21, 5]
abbrev dktX3_level_0 : List UInt8 := dkwX3_level_0 ++ dktX3_level_1
theorem dksX3_level_0 : cX3_level.data.toList.drop 0 = dktX3_level_0 := by decide +kernel
theorem dksX3_level_1 : cX3_level.data.toList.drop 22 = dktX3_level_1 := dk_seg dksX3_level_0 22 rfl rfl
theorem dksX3_level_2 : cX3_level.data.toList.drop 44 = dktX3_level_2 := dk_seg dksX3_level_1 22 rfl rfl
theorem dX3_level_0 : decode cX3_level 0 = .ok (.lconst 0, 1) := dk_9 (dk_at dksX3_level_0 0 rfl rfl)
theorem dX3_level_1 : decode cX3_level 1 = .ok (.lstore_n 2, 1) := dk_65 (dk_at dksX3_level_0 1 rfl rfl)
theorem dX3_level_2 : decode cX3_level 2 = .ok (.aload_n 0, 1) := dk_42 (dk_at dksX3_level_0 2 rfl rfl)
theorem dX3_level_3 : decode cX3_level 3 = .ok (.getfield 75, 3) := dk_180 0 75 (dk_at dksX3_level_0 3 rfl rfl)
theorem dX3_level_6 : decode cX3_level 6 = .ok (.iload_n 1, 1) := dk_27 (dk_at dksX3_level_0 6 rfl rfl)
theorem dX3_level_7 : decode cX3_level 7 = .ok (.aaload, 1) := dk_50 (dk_at dksX3_level_0 7 rfl rfl)
theorem dX3_level_8 : decode cX3_level 8 = .ok (.astore 4, 2) := dk_58 4 (dk_at dksX3_level_0 8 rfl rfl)
theorem dX3_level_10 : decode cX3_level 10 = .ok (.aload 4, 2) := dk_25 4 (dk_at dksX3_level_0 10 rfl rfl)
theorem dX3_level_12 : decode cX3_level 12 = .ok (.arraylength, 1) := dk_190 (dk_at dksX3_level_0 12 rfl rfl)
theorem dX3_level_13 : decode cX3_level 13 = .ok (.istore 5, 2) := dk_54 5 (dk_at dksX3_level_0 13 rfl rfl)
theorem dX3_level_15 : decode cX3_level 15 = .ok (.iconst 0, 1) := dk_3 (dk_at dksX3_level_0 15 rfl rfl)
theorem dX3_level_16 : decode cX3_level 16 = .ok (.istore 6, 2) := dk_54 6 (dk_at dksX3_level_0 16 rfl rfl)
theorem dX3_level_18 : decode cX3_level 18 = .ok (.iload 6, 2) := dk_21 6 (dk_at dksX3_level_0 18 rfl rfl)
theorem dX3_level_20 : decode cX3_level 20 = .ok (.iload 5, 2) := dk_21 5 (dk_at dksX3_level_0 20 rfl rfl)
theorem dX3_level_22 : decode cX3_level 22 = .ok (.if_icmp .ge 25, 3) := dk_162 0 25 (dk_at dksX3_level_1 0 rfl rfl)
theorem dX3_level_25 : decode cX3_level 25 = .ok (.aload 4, 2) := dk_25 4 (dk_at dksX3_level_1 3 rfl rfl)
theorem dX3_level_27 : decode cX3_level 27 = .ok (.iload 6, 2) := dk_21 6 (dk_at dksX3_level_1 5 rfl rfl)
theorem dX3_level_29 : decode cX3_level 29 = .ok (.iaload, 1) := dk_46 (dk_at dksX3_level_1 7 rfl rfl)
theorem dX3_level_30 : decode cX3_level 30 = .ok (.i2l, 1) := dk_133 (dk_at dksX3_level_1 8 rfl rfl)
theorem dX3_level_31 : decode cX3_level 31 = .ok (.lstore 7, 2) := dk_55 7 (dk_at dksX3_level_1 9 rfl rfl)
theorem dX3_level_33 : decode cX3_level 33 = .ok (.lload_n 2, 1) := dk_32 (dk_at dksX3_level_1 11 rfl rfl)
theorem dX3_level_34 : decode cX3_level 34 = .ok (.lload 7, 2) := dk_22 7 (dk_at dksX3_level_1 12 rfl rfl)
theorem dX3_level_36 : decode cX3_level 36 = .ok (.lload 7, 2) := dk_22 7 (dk_at dksX3_level_1 14 rfl rfl)
theorem dX3_level_38 : decode cX3_level 38 = .ok (.lmul, 1) := dk_105 (dk_at dksX3_level_1 16 rfl rfl)
theorem dX3_level_39 : decode cX3_level 39 = .ok (.ladd, 1) := dk_97 (dk_at dksX3_level_1 17 rfl rfl)
theorem dX3_level_40 : decode cX3_level 40 = .ok (.lstore_n 2, 1) := dk_65 (dk_at dksX3_level_1 18 rfl rfl)
theorem dX3_level_41 : decode cX3_level 41 = .ok (.iinc 6 1, 3) := dk_132 6 1 (dk_at dksX3_level_1 19 rfl rfl)
theorem dX3_level_44 : decode cX3_level 44 = .ok (.goto (-26), 3) := dk_167 255 230 (dk_at dksX3_level_2 0 rfl rfl)
theorem dX3_level_47 : decode cX3_level 47 = .ok (.lload_n 2, 1) := dk_32 (dk_at dksX3_level_2 3 rfl rfl)
theorem dX3_level_48 : decode cX3_level 48 = .ok (.aload_n 0, 1) := dk_42 (dk_at dksX3_level_2 4 rfl rfl)
theorem dX3_level_49 : decode cX3_level 49 = .ok (.getfield 23, 3) := dk_180 0 23 (dk_at dksX3_level_2 5 rfl rfl)
theorem dX3_level_52 : decode cX3_level 52 = .ok (.getfield 69, 3) := dk_180 0 69 (dk_at dksX3_level_2 8 rfl rfl)
theorem dX3_level_55 : decode cX3_level 55 = .ok (.i2l, 1) := dk_133 (dk_at dksX3_level_2 11 rfl rfl)
theorem dX3_level_56 : decode cX3_level 56 = .ok (.ldiv, 1) := dk_109 (dk_at dksX3_level_2 12 rfl rfl)
theorem dX3_level_57 : decode cX3_level 57 = .ok (.lreturn, 1) := dk_173 (dk_at dksX3_level_2 13 rfl rfl)
abbrev cX3_copy : ByteArray := prog_9_method_2_code
def yX3_copy : MethodName := ⟨RX3, "copy", "()LAcousticCamera$State;"⟩
def dkwX3_copy_5 : List UInt8 := [180, 0, 101, 181, 0, 101, 43, 176]
abbrev dktX3_copy_5 : List UInt8 := dkwX3_copy_5 ++ []
def dkwX3_copy_4 : List UInt8 := [50, 182, 0, 93, 192, 0, 94, 83, 132, 2, 1, 167, 255, 226, 43, 42, 180, 0, 98, 181, 0, 98, 43, 42]
abbrev dktX3_copy_4 : List UInt8 := dkwX3_copy_4 ++ dktX3_copy_5
def dkwX3_copy_3 : List UInt8 := [181, 0, 62, 3, 61, 28, 42, 180, 0, 75, 190, 162, 0, 27, 43, 180, 0, 75, 28, 42, 180, 0, 75, 28]
abbrev dktX3_copy_3 : List UInt8 := dkwX3_copy_3 ++ dktX3_copy_4
def dkwX3_copy_2 : List UInt8 := [180, 0, 41, 3, 42, 180, 0, 41, 190, 184, 0, 87, 43, 42, 180, 0, 62, 182, 0, 93, 192, 0, 94]
abbrev dktX3_copy_2 : List UInt8 := dkwX3_copy_2 ++ dktX3_copy_3
def dkwX3_copy_1 : List UInt8 := [180, 0, 20, 182, 0, 84, 43, 180, 0, 20, 42, 180, 0, 20, 182, 0, 81, 42, 180, 0, 41, 3, 43]
abbrev dktX3_copy_1 : List UInt8 := dkwX3_copy_1 ++ dktX3_copy_2
def dkwX3_copy_0 : List UInt8 := [187, 0, 15, 89, 42, 180, 0, 23, 183, 0, 78, 76, 43, 180, 0, 14, 42, 180, 0, 14, 182, 0, 81, 43]
abbrev dktX3_copy_0 : List UInt8 := dkwX3_copy_0 ++ dktX3_copy_1
theorem dksX3_copy_0 : cX3_copy.data.toList.drop 0 = dktX3_copy_0 := by decide +kernel
theorem dksX3_copy_1 : cX3_copy.data.toList.drop 24 = dktX3_copy_1 := dk_seg dksX3_copy_0 24 rfl rfl
theorem dksX3_copy_2 : cX3_copy.data.toList.drop 47 = dktX3_copy_2 := dk_seg dksX3_copy_1 23 rfl rfl
theorem dksX3_copy_3 : cX3_copy.data.toList.drop 70 = dktX3_copy_3 := dk_seg dksX3_copy_2 23 rfl rfl
theorem dksX3_copy_4 : cX3_copy.data.toList.drop 94 = dktX3_copy_4 := dk_seg dksX3_copy_3 24 rfl rfl
theorem dksX3_copy_5 : cX3_copy.data.toList.drop 118 = dktX3_copy_5 := dk_seg dksX3_copy_4 24 rfl rfl
theorem dX3_copy_0 : decode cX3_copy 0 = .ok (.new 15, 3) := dk_187 0 15 (dk_at dksX3_copy_0 0 rfl rfl)
theorem dX3_copy_3 : decode cX3_copy 3 = .ok (.dup, 1) := dk_89 (dk_at dksX3_copy_0 3 rfl rfl)
theorem dX3_copy_4 : decode cX3_copy 4 = .ok (.aload_n 0, 1) := dk_42 (dk_at dksX3_copy_0 4 rfl rfl)
theorem dX3_copy_5 : decode cX3_copy 5 = .ok (.getfield 23, 3) := dk_180 0 23 (dk_at dksX3_copy_0 5 rfl rfl)
theorem dX3_copy_8 : decode cX3_copy 8 = .ok (.invokespecial 78, 3) := dk_183 0 78 (dk_at dksX3_copy_0 8 rfl rfl)
theorem dX3_copy_11 : decode cX3_copy 11 = .ok (.astore_n 1, 1) := dk_76 (dk_at dksX3_copy_0 11 rfl rfl)
theorem dX3_copy_12 : decode cX3_copy 12 = .ok (.aload_n 1, 1) := dk_43 (dk_at dksX3_copy_0 12 rfl rfl)
theorem dX3_copy_13 : decode cX3_copy 13 = .ok (.getfield 14, 3) := dk_180 0 14 (dk_at dksX3_copy_0 13 rfl rfl)
theorem dX3_copy_16 : decode cX3_copy 16 = .ok (.aload_n 0, 1) := dk_42 (dk_at dksX3_copy_0 16 rfl rfl)
theorem dX3_copy_17 : decode cX3_copy 17 = .ok (.getfield 14, 3) := dk_180 0 14 (dk_at dksX3_copy_0 17 rfl rfl)
theorem dX3_copy_20 : decode cX3_copy 20 = .ok (.invokevirtual 81, 3) := dk_182 0 81 (dk_at dksX3_copy_0 20 rfl rfl)
theorem dX3_copy_23 : decode cX3_copy 23 = .ok (.aload_n 1, 1) := dk_43 (dk_at dksX3_copy_0 23 rfl rfl)
theorem dX3_copy_24 : decode cX3_copy 24 = .ok (.getfield 20, 3) := dk_180 0 20 (dk_at dksX3_copy_1 0 rfl rfl)
theorem dX3_copy_27 : decode cX3_copy 27 = .ok (.invokevirtual 84, 3) := dk_182 0 84 (dk_at dksX3_copy_1 3 rfl rfl)
theorem dX3_copy_30 : decode cX3_copy 30 = .ok (.aload_n 1, 1) := dk_43 (dk_at dksX3_copy_1 6 rfl rfl)
theorem dX3_copy_31 : decode cX3_copy 31 = .ok (.getfield 20, 3) := dk_180 0 20 (dk_at dksX3_copy_1 7 rfl rfl)
theorem dX3_copy_34 : decode cX3_copy 34 = .ok (.aload_n 0, 1) := dk_42 (dk_at dksX3_copy_1 10 rfl rfl)
theorem dX3_copy_35 : decode cX3_copy 35 = .ok (.getfield 20, 3) := dk_180 0 20 (dk_at dksX3_copy_1 11 rfl rfl)
theorem dX3_copy_38 : decode cX3_copy 38 = .ok (.invokevirtual 81, 3) := dk_182 0 81 (dk_at dksX3_copy_1 14 rfl rfl)
theorem dX3_copy_41 : decode cX3_copy 41 = .ok (.aload_n 0, 1) := dk_42 (dk_at dksX3_copy_1 17 rfl rfl)
theorem dX3_copy_42 : decode cX3_copy 42 = .ok (.getfield 41, 3) := dk_180 0 41 (dk_at dksX3_copy_1 18 rfl rfl)
theorem dX3_copy_45 : decode cX3_copy 45 = .ok (.iconst 0, 1) := dk_3 (dk_at dksX3_copy_1 21 rfl rfl)
theorem dX3_copy_46 : decode cX3_copy 46 = .ok (.aload_n 1, 1) := dk_43 (dk_at dksX3_copy_1 22 rfl rfl)
theorem dX3_copy_47 : decode cX3_copy 47 = .ok (.getfield 41, 3) := dk_180 0 41 (dk_at dksX3_copy_2 0 rfl rfl)
theorem dX3_copy_50 : decode cX3_copy 50 = .ok (.iconst 0, 1) := dk_3 (dk_at dksX3_copy_2 3 rfl rfl)
theorem dX3_copy_51 : decode cX3_copy 51 = .ok (.aload_n 0, 1) := dk_42 (dk_at dksX3_copy_2 4 rfl rfl)
theorem dX3_copy_52 : decode cX3_copy 52 = .ok (.getfield 41, 3) := dk_180 0 41 (dk_at dksX3_copy_2 5 rfl rfl)
theorem dX3_copy_55 : decode cX3_copy 55 = .ok (.arraylength, 1) := dk_190 (dk_at dksX3_copy_2 8 rfl rfl)
theorem dX3_copy_56 : decode cX3_copy 56 = .ok (.invokestatic 87, 3) := dk_184 0 87 (dk_at dksX3_copy_2 9 rfl rfl)
theorem dX3_copy_59 : decode cX3_copy 59 = .ok (.aload_n 1, 1) := dk_43 (dk_at dksX3_copy_2 12 rfl rfl)
theorem dX3_copy_60 : decode cX3_copy 60 = .ok (.aload_n 0, 1) := dk_42 (dk_at dksX3_copy_2 13 rfl rfl)
theorem dX3_copy_61 : decode cX3_copy 61 = .ok (.getfield 62, 3) := dk_180 0 62 (dk_at dksX3_copy_2 14 rfl rfl)
theorem dX3_copy_64 : decode cX3_copy 64 = .ok (.invokevirtual 93, 3) := dk_182 0 93 (dk_at dksX3_copy_2 17 rfl rfl)
theorem dX3_copy_67 : decode cX3_copy 67 = .ok (.checkcast 94, 3) := dk_192 0 94 (dk_at dksX3_copy_2 20 rfl rfl)
theorem dX3_copy_70 : decode cX3_copy 70 = .ok (.putfield 62, 3) := dk_181 0 62 (dk_at dksX3_copy_3 0 rfl rfl)
theorem dX3_copy_73 : decode cX3_copy 73 = .ok (.iconst 0, 1) := dk_3 (dk_at dksX3_copy_3 3 rfl rfl)
theorem dX3_copy_74 : decode cX3_copy 74 = .ok (.istore_n 2, 1) := dk_61 (dk_at dksX3_copy_3 4 rfl rfl)
theorem dX3_copy_75 : decode cX3_copy 75 = .ok (.iload_n 2, 1) := dk_28 (dk_at dksX3_copy_3 5 rfl rfl)
theorem dX3_copy_76 : decode cX3_copy 76 = .ok (.aload_n 0, 1) := dk_42 (dk_at dksX3_copy_3 6 rfl rfl)
theorem dX3_copy_77 : decode cX3_copy 77 = .ok (.getfield 75, 3) := dk_180 0 75 (dk_at dksX3_copy_3 7 rfl rfl)
theorem dX3_copy_80 : decode cX3_copy 80 = .ok (.arraylength, 1) := dk_190 (dk_at dksX3_copy_3 10 rfl rfl)
theorem dX3_copy_81 : decode cX3_copy 81 = .ok (.if_icmp .ge 27, 3) := dk_162 0 27 (dk_at dksX3_copy_3 11 rfl rfl)
theorem dX3_copy_84 : decode cX3_copy 84 = .ok (.aload_n 1, 1) := dk_43 (dk_at dksX3_copy_3 14 rfl rfl)
theorem dX3_copy_85 : decode cX3_copy 85 = .ok (.getfield 75, 3) := dk_180 0 75 (dk_at dksX3_copy_3 15 rfl rfl)
theorem dX3_copy_88 : decode cX3_copy 88 = .ok (.iload_n 2, 1) := dk_28 (dk_at dksX3_copy_3 18 rfl rfl)
theorem dX3_copy_89 : decode cX3_copy 89 = .ok (.aload_n 0, 1) := dk_42 (dk_at dksX3_copy_3 19 rfl rfl)
theorem dX3_copy_90 : decode cX3_copy 90 = .ok (.getfield 75, 3) := dk_180 0 75 (dk_at dksX3_copy_3 20 rfl rfl)
theorem dX3_copy_93 : decode cX3_copy 93 = .ok (.iload_n 2, 1) := dk_28 (dk_at dksX3_copy_3 23 rfl rfl)
theorem dX3_copy_94 : decode cX3_copy 94 = .ok (.aaload, 1) := dk_50 (dk_at dksX3_copy_4 0 rfl rfl)
theorem dX3_copy_95 : decode cX3_copy 95 = .ok (.invokevirtual 93, 3) := dk_182 0 93 (dk_at dksX3_copy_4 1 rfl rfl)
theorem dX3_copy_98 : decode cX3_copy 98 = .ok (.checkcast 94, 3) := dk_192 0 94 (dk_at dksX3_copy_4 4 rfl rfl)
theorem dX3_copy_101 : decode cX3_copy 101 = .ok (.aastore, 1) := dk_83 (dk_at dksX3_copy_4 7 rfl rfl)
theorem dX3_copy_102 : decode cX3_copy 102 = .ok (.iinc 2 1, 3) := dk_132 2 1 (dk_at dksX3_copy_4 8 rfl rfl)
theorem dX3_copy_105 : decode cX3_copy 105 = .ok (.goto (-30), 3) := dk_167 255 226 (dk_at dksX3_copy_4 11 rfl rfl)
theorem dX3_copy_108 : decode cX3_copy 108 = .ok (.aload_n 1, 1) := dk_43 (dk_at dksX3_copy_4 14 rfl rfl)
theorem dX3_copy_109 : decode cX3_copy 109 = .ok (.aload_n 0, 1) := dk_42 (dk_at dksX3_copy_4 15 rfl rfl)
theorem dX3_copy_110 : decode cX3_copy 110 = .ok (.getfield 98, 3) := dk_180 0 98 (dk_at dksX3_copy_4 16 rfl rfl)
theorem dX3_copy_113 : decode cX3_copy 113 = .ok (.putfield 98, 3) := dk_181 0 98 (dk_at dksX3_copy_4 19 rfl rfl)
theorem dX3_copy_116 : decode cX3_copy 116 = .ok (.aload_n 1, 1) := dk_43 (dk_at dksX3_copy_4 22 rfl rfl)
theorem dX3_copy_117 : decode cX3_copy 117 = .ok (.aload_n 0, 1) := dk_42 (dk_at dksX3_copy_4 23 rfl rfl)
theorem dX3_copy_118 : decode cX3_copy 118 = .ok (.getfield 101, 3) := dk_180 0 101 (dk_at dksX3_copy_5 0 rfl rfl)
theorem dX3_copy_121 : decode cX3_copy 121 = .ok (.putfield 101, 3) := dk_181 0 101 (dk_at dksX3_copy_5 3 rfl rfl)
theorem dX3_copy_124 : decode cX3_copy 124 = .ok (.aload_n 1, 1) := dk_43 (dk_at dksX3_copy_5 6 rfl rfl)
theorem dX3_copy_125 : decode cX3_copy 125 = .ok (.areturn, 1) := dk_176 (dk_at dksX3_copy_5 7 rfl rfl)
abbrev cX3_weightSum : ByteArray := prog_9_method_31_code
def yX3_weightSum : MethodName := ⟨RX3, "weightSum", "()I"⟩
def dkwX3_weightSum_1 : List UInt8 := [180, 0, 62, 28, 46, 167, 0, 4, 3, 96, 60, 132, 2, 1, 167, 255, 223, 27, 172]
abbrev dktX3_weightSum_1 : List UInt8 := dkwX3_weightSum_1 ++ []
def dkwX3_weightSum_0 : List UInt8 := [3, 60, 3, 61, 28, 42, 180, 0, 62, 190, 162, 0, 30, 27, 42, 28, 182, 0, 180, 153, 0, 12, 42]
abbrev dktX3_weightSum_0 : List UInt8 := dkwX3_weightSum_0 ++ dktX3_weightSum_1
theorem dksX3_weightSum_0 : cX3_weightSum.data.toList.drop 0 = dktX3_weightSum_0 := by decide +kernel
theorem dksX3_weightSum_1 : cX3_weightSum.data.toList.drop 23 = dktX3_weightSum_1 := dk_seg dksX3_weightSum_0 23 rfl rfl
theorem dX3_weightSum_0 : decode cX3_weightSum 0 = .ok (.iconst 0, 1) := dk_3 (dk_at dksX3_weightSum_0 0 rfl rfl)
theorem dX3_weightSum_1 : decode cX3_weightSum 1 = .ok (.istore_n 1, 1) := dk_60 (dk_at dksX3_weightSum_0 1 rfl rfl)
theorem dX3_weightSum_2 : decode cX3_weightSum 2 = .ok (.iconst 0, 1) := dk_3 (dk_at dksX3_weightSum_0 2 rfl rfl)
theorem dX3_weightSum_3 : decode cX3_weightSum 3 = .ok (.istore_n 2, 1) := dk_61 (dk_at dksX3_weightSum_0 3 rfl rfl)
theorem dX3_weightSum_4 : decode cX3_weightSum 4 = .ok (.iload_n 2, 1) := dk_28 (dk_at dksX3_weightSum_0 4 rfl rfl)
theorem dX3_weightSum_5 : decode cX3_weightSum 5 = .ok (.aload_n 0, 1) := dk_42 (dk_at dksX3_weightSum_0 5 rfl rfl)
theorem dX3_weightSum_6 : decode cX3_weightSum 6 = .ok (.getfield 62, 3) := dk_180 0 62 (dk_at dksX3_weightSum_0 6 rfl rfl)
theorem dX3_weightSum_9 : decode cX3_weightSum 9 = .ok (.arraylength, 1) := dk_190 (dk_at dksX3_weightSum_0 9 rfl rfl)
theorem dX3_weightSum_10 : decode cX3_weightSum 10 = .ok (.if_icmp .ge 30, 3) := dk_162 0 30 (dk_at dksX3_weightSum_0 10 rfl rfl)
theorem dX3_weightSum_13 : decode cX3_weightSum 13 = .ok (.iload_n 1, 1) := dk_27 (dk_at dksX3_weightSum_0 13 rfl rfl)
theorem dX3_weightSum_14 : decode cX3_weightSum 14 = .ok (.aload_n 0, 1) := dk_42 (dk_at dksX3_weightSum_0 14 rfl rfl)
theorem dX3_weightSum_15 : decode cX3_weightSum 15 = .ok (.iload_n 2, 1) := dk_28 (dk_at dksX3_weightSum_0 15 rfl rfl)
theorem dX3_weightSum_16 : decode cX3_weightSum 16 = .ok (.invokevirtual 180, 3) := dk_182 0 180 (dk_at dksX3_weightSum_0 16 rfl rfl)
theorem dX3_weightSum_19 : decode cX3_weightSum 19 = .ok (.ifCond .eq 12, 3) := dk_153 0 12 (dk_at dksX3_weightSum_0 19 rfl rfl)
theorem dX3_weightSum_22 : decode cX3_weightSum 22 = .ok (.aload_n 0, 1) := dk_42 (dk_at dksX3_weightSum_0 22 rfl rfl)
theorem dX3_weightSum_23 : decode cX3_weightSum 23 = .ok (.getfield 62, 3) := dk_180 0 62 (dk_at dksX3_weightSum_1 0 rfl rfl)
theorem dX3_weightSum_26 : decode cX3_weightSum 26 = .ok (.iload_n 2, 1) := dk_28 (dk_at dksX3_weightSum_1 3 rfl rfl)
theorem dX3_weightSum_27 : decode cX3_weightSum 27 = .ok (.iaload, 1) := dk_46 (dk_at dksX3_weightSum_1 4 rfl rfl)
theorem dX3_weightSum_28 : decode cX3_weightSum 28 = .ok (.goto 4, 3) := dk_167 0 4 (dk_at dksX3_weightSum_1 5 rfl rfl)
theorem dX3_weightSum_31 : decode cX3_weightSum 31 = .ok (.iconst 0, 1) := dk_3 (dk_at dksX3_weightSum_1 8 rfl rfl)
theorem dX3_weightSum_32 : decode cX3_weightSum 32 = .ok (.iadd, 1) := dk_96 (dk_at dksX3_weightSum_1 9 rfl rfl)
theorem dX3_weightSum_33 : decode cX3_weightSum 33 = .ok (.istore_n 1, 1) := dk_60 (dk_at dksX3_weightSum_1 10 rfl rfl)
theorem dX3_weightSum_34 : decode cX3_weightSum 34 = .ok (.iinc 2 1, 3) := dk_132 2 1 (dk_at dksX3_weightSum_1 11 rfl rfl)
theorem dX3_weightSum_37 : decode cX3_weightSum 37 = .ok (.goto (-33), 3) := dk_167 255 223 (dk_at dksX3_weightSum_1 14 rfl rfl)
theorem dX3_weightSum_40 : decode cX3_weightSum 40 = .ok (.iload_n 1, 1) := dk_27 (dk_at dksX3_weightSum_1 17 rfl rfl)
theorem dX3_weightSum_41 : decode cX3_weightSum 41 = .ok (.ireturn, 1) := dk_172 (dk_at dksX3_weightSum_1 18 rfl rfl)
abbrev cX3_clean : ByteArray := prog_9_method_32_code
def yX3_clean : MethodName := ⟨RX3, "clean", "(I)I"⟩
def dkwX3_clean_6 : List UInt8 := [181, 0, 98, 42, 1, 181, 0, 101, 28, 172]
abbrev dktX3_clean_6 : List UInt8 := dkwX3_clean_6 ++ []
def dkwX3_clean_5 : List UInt8 := [133, 109, 136, 100, 79, 132, 6, 1, 167, 255, 207, 132, 5, 1, 167, 255, 176, 42, 89, 180, 0, 98, 4, 96]
abbrev dktX3_clean_5 : List UInt8 := dkwX3_clean_5 ++ dktX3_clean_6
def dkwX3_clean_4 : List UInt8 := [180, 0, 23, 180, 0, 183, 21, 5, 50, 28, 46, 96, 92, 46, 45, 21, 6, 46, 133, 27, 133, 105, 21, 4]
abbrev dktX3_clean_4 : List UInt8 := dkwX3_clean_4 ++ dktX3_clean_5
def dkwX3_clean_3 : List UInt8 := [167, 0, 58, 3, 54, 6, 21, 6, 45, 190, 162, 0, 48, 42, 180, 0, 75, 21, 5, 50, 21, 6, 42]
abbrev dktX3_clean_3 : List UInt8 := dkwX3_clean_3 ++ dktX3_clean_4
def dkwX3_clean_2 : List UInt8 := [54, 4, 3, 54, 5, 21, 5, 42, 180, 0, 62, 190, 162, 0, 76, 42, 21, 5, 182, 0, 180, 154, 0, 6]
abbrev dktX3_clean_2 : List UInt8 := dkwX3_clean_2 ++ dktX3_clean_3
def dkwX3_clean_1 : List UInt8 := [21, 4, 42, 28, 21, 4, 182, 0, 189, 79, 132, 4, 1, 167, 255, 235, 16, 100, 42, 182, 1, 27, 104]
abbrev dktX3_clean_1 : List UInt8 := dkwX3_clean_1 ++ dktX3_clean_2
def dkwX3_clean_0 : List UInt8 := [42, 182, 1, 16, 61, 42, 28, 182, 0, 192, 188, 10, 78, 3, 54, 4, 21, 4, 45, 190, 162, 0, 20, 45]
abbrev dktX3_clean_0 : List UInt8 := dkwX3_clean_0 ++ dktX3_clean_1
theorem dksX3_clean_0 : cX3_clean.data.toList.drop 0 = dktX3_clean_0 := by decide +kernel
theorem dksX3_clean_1 : cX3_clean.data.toList.drop 24 = dktX3_clean_1 := dk_seg dksX3_clean_0 24 rfl rfl
theorem dksX3_clean_2 : cX3_clean.data.toList.drop 47 = dktX3_clean_2 := dk_seg dksX3_clean_1 23 rfl rfl
theorem dksX3_clean_3 : cX3_clean.data.toList.drop 71 = dktX3_clean_3 := dk_seg dksX3_clean_2 24 rfl rfl
theorem dksX3_clean_4 : cX3_clean.data.toList.drop 94 = dktX3_clean_4 := dk_seg dksX3_clean_3 23 rfl rfl
theorem dksX3_clean_5 : cX3_clean.data.toList.drop 118 = dktX3_clean_5 := dk_seg dksX3_clean_4 24 rfl rfl
theorem dksX3_clean_6 : cX3_clean.data.toList.drop 142 = dktX3_clean_6 := dk_seg dksX3_clean_5 24 rfl rfl
theorem dX3_clean_0 : decode cX3_clean 0 = .ok (.aload_n 0, 1) := dk_42 (dk_at dksX3_clean_0 0 rfl rfl)
theorem dX3_clean_1 : decode cX3_clean 1 = .ok (.invokevirtual 272, 3) := dk_182 1 16 (dk_at dksX3_clean_0 1 rfl rfl)
theorem dX3_clean_4 : decode cX3_clean 4 = .ok (.istore_n 2, 1) := dk_61 (dk_at dksX3_clean_0 4 rfl rfl)
theorem dX3_clean_5 : decode cX3_clean 5 = .ok (.aload_n 0, 1) := dk_42 (dk_at dksX3_clean_0 5 rfl rfl)
theorem dX3_clean_6 : decode cX3_clean 6 = .ok (.iload_n 2, 1) := dk_28 (dk_at dksX3_clean_0 6 rfl rfl)
theorem dX3_clean_7 : decode cX3_clean 7 = .ok (.invokevirtual 192, 3) := dk_182 0 192 (dk_at dksX3_clean_0 7 rfl rfl)
theorem dX3_clean_10 : decode cX3_clean 10 = .ok (.newarray .int, 2) := dk_188_10 (dk_at dksX3_clean_0 10 rfl rfl)
theorem dX3_clean_12 : decode cX3_clean 12 = .ok (.astore_n 3, 1) := dk_78 (dk_at dksX3_clean_0 12 rfl rfl)
theorem dX3_clean_13 : decode cX3_clean 13 = .ok (.iconst 0, 1) := dk_3 (dk_at dksX3_clean_0 13 rfl rfl)
theorem dX3_clean_14 : decode cX3_clean 14 = .ok (.istore 4, 2) := dk_54 4 (dk_at dksX3_clean_0 14 rfl rfl)
theorem dX3_clean_16 : decode cX3_clean 16 = .ok (.iload 4, 2) := dk_21 4 (dk_at dksX3_clean_0 16 rfl rfl)
theorem dX3_clean_18 : decode cX3_clean 18 = .ok (.aload_n 3, 1) := dk_45 (dk_at dksX3_clean_0 18 rfl rfl)
theorem dX3_clean_19 : decode cX3_clean 19 = .ok (.arraylength, 1) := dk_190 (dk_at dksX3_clean_0 19 rfl rfl)
theorem dX3_clean_20 : decode cX3_clean 20 = .ok (.if_icmp .ge 20, 3) := dk_162 0 20 (dk_at dksX3_clean_0 20 rfl rfl)
theorem dX3_clean_23 : decode cX3_clean 23 = .ok (.aload_n 3, 1) := dk_45 (dk_at dksX3_clean_0 23 rfl rfl)
theorem dX3_clean_24 : decode cX3_clean 24 = .ok (.iload 4, 2) := dk_21 4 (dk_at dksX3_clean_1 0 rfl rfl)
theorem dX3_clean_26 : decode cX3_clean 26 = .ok (.aload_n 0, 1) := dk_42 (dk_at dksX3_clean_1 2 rfl rfl)
theorem dX3_clean_27 : decode cX3_clean 27 = .ok (.iload_n 2, 1) := dk_28 (dk_at dksX3_clean_1 3 rfl rfl)
theorem dX3_clean_28 : decode cX3_clean 28 = .ok (.iload 4, 2) := dk_21 4 (dk_at dksX3_clean_1 4 rfl rfl)
theorem dX3_clean_30 : decode cX3_clean 30 = .ok (.invokevirtual 189, 3) := dk_182 0 189 (dk_at dksX3_clean_1 6 rfl rfl)
theorem dX3_clean_33 : decode cX3_clean 33 = .ok (.iastore, 1) := dk_79 (dk_at dksX3_clean_1 9 rfl rfl)
theorem dX3_clean_34 : decode cX3_clean 34 = .ok (.iinc 4 1, 3) := dk_132 4 1 (dk_at dksX3_clean_1 10 rfl rfl)
theorem dX3_clean_37 : decode cX3_clean 37 = .ok (.goto (-21), 3) := dk_167 255 235 (dk_at dksX3_clean_1 13 rfl rfl)
theorem dX3_clean_40 : decode cX3_clean 40 = .ok (.bipush 100, 2) := dk_16 100 (dk_at dksX3_clean_1 16 rfl rfl)
theorem dX3_clean_42 : decode cX3_clean 42 = .ok (.aload_n 0, 1) := dk_42 (dk_at dksX3_clean_1 18 rfl rfl)
theorem dX3_clean_43 : decode cX3_clean 43 = .ok (.invokevirtual 283, 3) := dk_182 1 27 (dk_at dksX3_clean_1 19 rfl rfl)
theorem dX3_clean_46 : decode cX3_clean 46 = .ok (.imul, 1) := dk_104 (dk_at dksX3_clean_1 22 rfl rfl)
theorem dX3_clean_47 : decode cX3_clean 47 = .ok (.istore 4, 2) := dk_54 4 (dk_at dksX3_clean_2 0 rfl rfl)
theorem dX3_clean_49 : decode cX3_clean 49 = .ok (.iconst 0, 1) := dk_3 (dk_at dksX3_clean_2 2 rfl rfl)
theorem dX3_clean_50 : decode cX3_clean 50 = .ok (.istore 5, 2) := dk_54 5 (dk_at dksX3_clean_2 3 rfl rfl)
theorem dX3_clean_52 : decode cX3_clean 52 = .ok (.iload 5, 2) := dk_21 5 (dk_at dksX3_clean_2 5 rfl rfl)
theorem dX3_clean_54 : decode cX3_clean 54 = .ok (.aload_n 0, 1) := dk_42 (dk_at dksX3_clean_2 7 rfl rfl)
theorem dX3_clean_55 : decode cX3_clean 55 = .ok (.getfield 62, 3) := dk_180 0 62 (dk_at dksX3_clean_2 8 rfl rfl)
theorem dX3_clean_58 : decode cX3_clean 58 = .ok (.arraylength, 1) := dk_190 (dk_at dksX3_clean_2 11 rfl rfl)
theorem dX3_clean_59 : decode cX3_clean 59 = .ok (.if_icmp .ge 76, 3) := dk_162 0 76 (dk_at dksX3_clean_2 12 rfl rfl)
theorem dX3_clean_62 : decode cX3_clean 62 = .ok (.aload_n 0, 1) := dk_42 (dk_at dksX3_clean_2 15 rfl rfl)
theorem dX3_clean_63 : decode cX3_clean 63 = .ok (.iload 5, 2) := dk_21 5 (dk_at dksX3_clean_2 16 rfl rfl)
theorem dX3_clean_65 : decode cX3_clean 65 = .ok (.invokevirtual 180, 3) := dk_182 0 180 (dk_at dksX3_clean_2 18 rfl rfl)
theorem dX3_clean_68 : decode cX3_clean 68 = .ok (.ifCond .ne 6, 3) := dk_154 0 6 (dk_at dksX3_clean_2 21 rfl rfl)
theorem dX3_clean_71 : decode cX3_clean 71 = .ok (.goto 58, 3) := dk_167 0 58 (dk_at dksX3_clean_3 0 rfl rfl)
theorem dX3_clean_74 : decode cX3_clean 74 = .ok (.iconst 0, 1) := dk_3 (dk_at dksX3_clean_3 3 rfl rfl)
theorem dX3_clean_75 : decode cX3_clean 75 = .ok (.istore 6, 2) := dk_54 6 (dk_at dksX3_clean_3 4 rfl rfl)
theorem dX3_clean_77 : decode cX3_clean 77 = .ok (.iload 6, 2) := dk_21 6 (dk_at dksX3_clean_3 6 rfl rfl)
theorem dX3_clean_79 : decode cX3_clean 79 = .ok (.aload_n 3, 1) := dk_45 (dk_at dksX3_clean_3 8 rfl rfl)
theorem dX3_clean_80 : decode cX3_clean 80 = .ok (.arraylength, 1) := dk_190 (dk_at dksX3_clean_3 9 rfl rfl)
theorem dX3_clean_81 : decode cX3_clean 81 = .ok (.if_icmp .ge 48, 3) := dk_162 0 48 (dk_at dksX3_clean_3 10 rfl rfl)
theorem dX3_clean_84 : decode cX3_clean 84 = .ok (.aload_n 0, 1) := dk_42 (dk_at dksX3_clean_3 13 rfl rfl)
theorem dX3_clean_85 : decode cX3_clean 85 = .ok (.getfield 75, 3) := dk_180 0 75 (dk_at dksX3_clean_3 14 rfl rfl)
theorem dX3_clean_88 : decode cX3_clean 88 = .ok (.iload 5, 2) := dk_21 5 (dk_at dksX3_clean_3 17 rfl rfl)
theorem dX3_clean_90 : decode cX3_clean 90 = .ok (.aaload, 1) := dk_50 (dk_at dksX3_clean_3 19 rfl rfl)
theorem dX3_clean_91 : decode cX3_clean 91 = .ok (.iload 6, 2) := dk_21 6 (dk_at dksX3_clean_3 20 rfl rfl)
theorem dX3_clean_93 : decode cX3_clean 93 = .ok (.aload_n 0, 1) := dk_42 (dk_at dksX3_clean_3 22 rfl rfl)
theorem dX3_clean_94 : decode cX3_clean 94 = .ok (.getfield 23, 3) := dk_180 0 23 (dk_at dksX3_clean_4 0 rfl rfl)
theorem dX3_clean_97 : decode cX3_clean 97 = .ok (.getfield 183, 3) := dk_180 0 183 (dk_at dksX3_clean_4 3 rfl rfl)
theorem dX3_clean_100 : decode cX3_clean 100 = .ok (.iload 5, 2) := dk_21 5 (dk_at dksX3_clean_4 6 rfl rfl)
theorem dX3_clean_102 : decode cX3_clean 102 = .ok (.aaload, 1) := dk_50 (dk_at dksX3_clean_4 8 rfl rfl)
theorem dX3_clean_103 : decode cX3_clean 103 = .ok (.iload_n 2, 1) := dk_28 (dk_at dksX3_clean_4 9 rfl rfl)
theorem dX3_clean_104 : decode cX3_clean 104 = .ok (.iaload, 1) := dk_46 (dk_at dksX3_clean_4 10 rfl rfl)
theorem dX3_clean_105 : decode cX3_clean 105 = .ok (.iadd, 1) := dk_96 (dk_at dksX3_clean_4 11 rfl rfl)
theorem dX3_clean_106 : decode cX3_clean 106 = .ok (.dup2, 1) := dk_92 (dk_at dksX3_clean_4 12 rfl rfl)
theorem dX3_clean_107 : decode cX3_clean 107 = .ok (.iaload, 1) := dk_46 (dk_at dksX3_clean_4 13 rfl rfl)
theorem dX3_clean_108 : decode cX3_clean 108 = .ok (.aload_n 3, 1) := dk_45 (dk_at dksX3_clean_4 14 rfl rfl)
theorem dX3_clean_109 : decode cX3_clean 109 = .ok (.iload 6, 2) := dk_21 6 (dk_at dksX3_clean_4 15 rfl rfl)
theorem dX3_clean_111 : decode cX3_clean 111 = .ok (.iaload, 1) := dk_46 (dk_at dksX3_clean_4 17 rfl rfl)
theorem dX3_clean_112 : decode cX3_clean 112 = .ok (.i2l, 1) := dk_133 (dk_at dksX3_clean_4 18 rfl rfl)
theorem dX3_clean_113 : decode cX3_clean 113 = .ok (.iload_n 1, 1) := dk_27 (dk_at dksX3_clean_4 19 rfl rfl)
theorem dX3_clean_114 : decode cX3_clean 114 = .ok (.i2l, 1) := dk_133 (dk_at dksX3_clean_4 20 rfl rfl)
theorem dX3_clean_115 : decode cX3_clean 115 = .ok (.lmul, 1) := dk_105 (dk_at dksX3_clean_4 21 rfl rfl)
theorem dX3_clean_116 : decode cX3_clean 116 = .ok (.iload 4, 2) := dk_21 4 (dk_at dksX3_clean_4 22 rfl rfl)
theorem dX3_clean_118 : decode cX3_clean 118 = .ok (.i2l, 1) := dk_133 (dk_at dksX3_clean_5 0 rfl rfl)
theorem dX3_clean_119 : decode cX3_clean 119 = .ok (.ldiv, 1) := dk_109 (dk_at dksX3_clean_5 1 rfl rfl)
theorem dX3_clean_120 : decode cX3_clean 120 = .ok (.l2i, 1) := dk_136 (dk_at dksX3_clean_5 2 rfl rfl)
theorem dX3_clean_121 : decode cX3_clean 121 = .ok (.isub, 1) := dk_100 (dk_at dksX3_clean_5 3 rfl rfl)
theorem dX3_clean_122 : decode cX3_clean 122 = .ok (.iastore, 1) := dk_79 (dk_at dksX3_clean_5 4 rfl rfl)
theorem dX3_clean_123 : decode cX3_clean 123 = .ok (.iinc 6 1, 3) := dk_132 6 1 (dk_at dksX3_clean_5 5 rfl rfl)
theorem dX3_clean_126 : decode cX3_clean 126 = .ok (.goto (-49), 3) := dk_167 255 207 (dk_at dksX3_clean_5 8 rfl rfl)
theorem dX3_clean_129 : decode cX3_clean 129 = .ok (.iinc 5 1, 3) := dk_132 5 1 (dk_at dksX3_clean_5 11 rfl rfl)
theorem dX3_clean_132 : decode cX3_clean 132 = .ok (.goto (-80), 3) := dk_167 255 176 (dk_at dksX3_clean_5 14 rfl rfl)
theorem dX3_clean_135 : decode cX3_clean 135 = .ok (.aload_n 0, 1) := dk_42 (dk_at dksX3_clean_5 17 rfl rfl)
theorem dX3_clean_136 : decode cX3_clean 136 = .ok (.dup, 1) := dk_89 (dk_at dksX3_clean_5 18 rfl rfl)
theorem dX3_clean_137 : decode cX3_clean 137 = .ok (.getfield 98, 3) := dk_180 0 98 (dk_at dksX3_clean_5 19 rfl rfl)
theorem dX3_clean_140 : decode cX3_clean 140 = .ok (.iconst 1, 1) := dk_4 (dk_at dksX3_clean_5 22 rfl rfl)
theorem dX3_clean_141 : decode cX3_clean 141 = .ok (.iadd, 1) := dk_96 (dk_at dksX3_clean_5 23 rfl rfl)
theorem dX3_clean_142 : decode cX3_clean 142 = .ok (.putfield 98, 3) := dk_181 0 98 (dk_at dksX3_clean_6 0 rfl rfl)
theorem dX3_clean_145 : decode cX3_clean 145 = .ok (.aload_n 0, 1) := dk_42 (dk_at dksX3_clean_6 3 rfl rfl)
theorem dX3_clean_146 : decode cX3_clean 146 = .ok (.aconst_null, 1) := dk_1 (dk_at dksX3_clean_6 4 rfl rfl)
theorem dX3_clean_147 : decode cX3_clean 147 = .ok (.putfield 101, 3) := dk_181 0 101 (dk_at dksX3_clean_6 5 rfl rfl)
theorem dX3_clean_150 : decode cX3_clean 150 = .ok (.iload_n 2, 1) := dk_28 (dk_at dksX3_clean_6 8 rfl rfl)
theorem dX3_clean_151 : decode cX3_clean 151 = .ok (.ireturn, 1) := dk_172 (dk_at dksX3_clean_6 9 rfl rfl)
