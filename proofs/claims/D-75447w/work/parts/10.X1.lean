/-! decode rows: X1.AcousticCamera.lean.txt -/
set_option maxRecDepth 100000
abbrev cX1_init : ByteArray := prog_1_method_6_code
def yX1_init : MethodName := ⟨RX1, "<init>", "()V"⟩
def dkwX1_init_2 : List UInt8 := [181, 0, 78, 177]
abbrev dktX1_init_2 : List UInt8 := dkwX1_init_2 ++ []
def dkwX1_init_1 : List UInt8 := [183, 0, 64, 181, 0, 65, 42, 5, 189, 0, 69, 181, 0, 71, 42, 187, 0, 75, 89, 183, 0, 77]
abbrev dktX1_init_1 : List UInt8 := dkwX1_init_1 ++ dktX1_init_2
def dkwX1_init_0 : List UInt8 := [42, 183, 0, 49, 42, 17, 3, 232, 188, 8, 181, 0, 54, 42, 2, 181, 0, 58, 42, 187, 0, 62, 89]
abbrev dktX1_init_0 : List UInt8 := dkwX1_init_0 ++ dktX1_init_1
theorem dksX1_init_0 : cX1_init.data.toList.drop 0 = dktX1_init_0 := by decide +kernel
theorem dksX1_init_1 : cX1_init.data.toList.drop 23 = dktX1_init_1 := dk_seg dksX1_init_0 23 rfl rfl
theorem dksX1_init_2 : cX1_init.data.toList.drop 45 = dktX1_init_2 := dk_seg dksX1_init_1 22 rfl rfl
theorem dX1_init_0 : decode cX1_init 0 = .ok (.aload_n 0, 1) := dk_42 (dk_at dksX1_init_0 0 rfl rfl)
theorem dX1_init_1 : decode cX1_init 1 = .ok (.invokespecial 49, 3) := dk_183 0 49 (dk_at dksX1_init_0 1 rfl rfl)
theorem dX1_init_4 : decode cX1_init 4 = .ok (.aload_n 0, 1) := dk_42 (dk_at dksX1_init_0 4 rfl rfl)
theorem dX1_init_5 : decode cX1_init 5 = .ok (.sipush 1000, 3) := dk_17 3 232 (dk_at dksX1_init_0 5 rfl rfl)
theorem dX1_init_8 : decode cX1_init 8 = .ok (.newarray .byte, 2) := dk_188_8 (dk_at dksX1_init_0 8 rfl rfl)
theorem dX1_init_10 : decode cX1_init 10 = .ok (.putfield 54, 3) := dk_181 0 54 (dk_at dksX1_init_0 10 rfl rfl)
theorem dX1_init_13 : decode cX1_init 13 = .ok (.aload_n 0, 1) := dk_42 (dk_at dksX1_init_0 13 rfl rfl)
theorem dX1_init_14 : decode cX1_init 14 = .ok (.iconst (-1), 1) := dk_2 (dk_at dksX1_init_0 14 rfl rfl)
theorem dX1_init_15 : decode cX1_init 15 = .ok (.putfield 58, 3) := dk_181 0 58 (dk_at dksX1_init_0 15 rfl rfl)
theorem dX1_init_18 : decode cX1_init 18 = .ok (.aload_n 0, 1) := dk_42 (dk_at dksX1_init_0 18 rfl rfl)
theorem dX1_init_19 : decode cX1_init 19 = .ok (.new 62, 3) := dk_187 0 62 (dk_at dksX1_init_0 19 rfl rfl)
theorem dX1_init_22 : decode cX1_init 22 = .ok (.dup, 1) := dk_89 (dk_at dksX1_init_0 22 rfl rfl)
theorem dX1_init_23 : decode cX1_init 23 = .ok (.invokespecial 64, 3) := dk_183 0 64 (dk_at dksX1_init_1 0 rfl rfl)
theorem dX1_init_26 : decode cX1_init 26 = .ok (.putfield 65, 3) := dk_181 0 65 (dk_at dksX1_init_1 3 rfl rfl)
theorem dX1_init_29 : decode cX1_init 29 = .ok (.aload_n 0, 1) := dk_42 (dk_at dksX1_init_1 6 rfl rfl)
theorem dX1_init_30 : decode cX1_init 30 = .ok (.iconst 2, 1) := dk_5 (dk_at dksX1_init_1 7 rfl rfl)
theorem dX1_init_31 : decode cX1_init 31 = .ok (.anewarray 69, 3) := dk_189 0 69 (dk_at dksX1_init_1 8 rfl rfl)
theorem dX1_init_34 : decode cX1_init 34 = .ok (.putfield 71, 3) := dk_181 0 71 (dk_at dksX1_init_1 11 rfl rfl)
theorem dX1_init_37 : decode cX1_init 37 = .ok (.aload_n 0, 1) := dk_42 (dk_at dksX1_init_1 14 rfl rfl)
theorem dX1_init_38 : decode cX1_init 38 = .ok (.new 75, 3) := dk_187 0 75 (dk_at dksX1_init_1 15 rfl rfl)
theorem dX1_init_41 : decode cX1_init 41 = .ok (.dup, 1) := dk_89 (dk_at dksX1_init_1 18 rfl rfl)
theorem dX1_init_42 : decode cX1_init 42 = .ok (.invokespecial 77, 3) := dk_183 0 77 (dk_at dksX1_init_1 19 rfl rfl)
theorem dX1_init_45 : decode cX1_init 45 = .ok (.putfield 78, 3) := dk_181 0 78 (dk_at dksX1_init_2 0 rfl rfl)
theorem dX1_init_48 : decode cX1_init 48 = .ok (.return_, 1) := dk_177 (dk_at dksX1_init_2 3 rfl rfl)
abbrev cX1_append : ByteArray := prog_1_method_19_code
def yX1_append : MethodName := ⟨RX1, "append", "(IIIII)I"⟩
def dkwX1_append_4 : List UInt8 := [96, 181, 0, 151, 132, 10, 248, 167, 255, 223, 132, 8, 1, 167, 255, 199, 42, 180, 0, 151, 172]
abbrev dktX1_append_4 : List UInt8 := dkwX1_append_4 ++ []
def dkwX1_append_3 : List UInt8 := [155, 0, 34, 42, 180, 0, 54, 42, 180, 0, 151, 21, 9, 21, 10, 122, 145, 84, 42, 89, 180, 0, 151, 4]
abbrev dktX1_append_3 : List UInt8 := dkwX1_append_3 ++ dktX1_append_4
def dkwX1_append_2 : List UInt8 := [54, 8, 21, 8, 21, 7, 162, 0, 56, 25, 6, 21, 8, 46, 54, 9, 16, 24, 54, 10, 21, 10]
abbrev dktX1_append_2 : List UInt8 := dkwX1_append_2 ++ dktX1_append_3
def dkwX1_append_1 : List UInt8 := [28, 79, 89, 5, 29, 79, 89, 6, 21, 4, 79, 89, 7, 21, 5, 79, 58, 6, 25, 6, 190, 54, 7, 3]
abbrev dktX1_append_1 : List UInt8 := dkwX1_append_1 ++ dktX1_append_2
def dkwX1_append_0 : List UInt8 := [42, 180, 0, 151, 16, 20, 96, 17, 3, 232, 164, 0, 5, 2, 172, 8, 188, 10, 89, 3, 27, 79, 89, 4]
abbrev dktX1_append_0 : List UInt8 := dkwX1_append_0 ++ dktX1_append_1
theorem dksX1_append_0 : cX1_append.data.toList.drop 0 = dktX1_append_0 := by decide +kernel
theorem dksX1_append_1 : cX1_append.data.toList.drop 24 = dktX1_append_1 := dk_seg dksX1_append_0 24 rfl rfl
theorem dksX1_append_2 : cX1_append.data.toList.drop 48 = dktX1_append_2 := dk_seg dksX1_append_1 24 rfl rfl
theorem dksX1_append_3 : cX1_append.data.toList.drop 70 = dktX1_append_3 := dk_seg dksX1_append_2 22 rfl rfl
theorem dksX1_append_4 : cX1_append.data.toList.drop 94 = dktX1_append_4 := dk_seg dksX1_append_3 24 rfl rfl
theorem dX1_append_0 : decode cX1_append 0 = .ok (.aload_n 0, 1) := dk_42 (dk_at dksX1_append_0 0 rfl rfl)
theorem dX1_append_1 : decode cX1_append 1 = .ok (.getfield 151, 3) := dk_180 0 151 (dk_at dksX1_append_0 1 rfl rfl)
theorem dX1_append_4 : decode cX1_append 4 = .ok (.bipush 20, 2) := dk_16 20 (dk_at dksX1_append_0 4 rfl rfl)
theorem dX1_append_6 : decode cX1_append 6 = .ok (.iadd, 1) := dk_96 (dk_at dksX1_append_0 6 rfl rfl)
theorem dX1_append_7 : decode cX1_append 7 = .ok (.sipush 1000, 3) := dk_17 3 232 (dk_at dksX1_append_0 7 rfl rfl)
theorem dX1_append_10 : decode cX1_append 10 = .ok (.if_icmp .le 5, 3) := dk_164 0 5 (dk_at dksX1_append_0 10 rfl rfl)
theorem dX1_append_13 : decode cX1_append 13 = .ok (.iconst (-1), 1) := dk_2 (dk_at dksX1_append_0 13 rfl rfl)
theorem dX1_append_14 : decode cX1_append 14 = .ok (.ireturn, 1) := dk_172 (dk_at dksX1_append_0 14 rfl rfl)
theorem dX1_append_15 : decode cX1_append 15 = .ok (.iconst 5, 1) := dk_8 (dk_at dksX1_append_0 15 rfl rfl)
theorem dX1_append_16 : decode cX1_append 16 = .ok (.newarray .int, 2) := dk_188_10 (dk_at dksX1_append_0 16 rfl rfl)
theorem dX1_append_18 : decode cX1_append 18 = .ok (.dup, 1) := dk_89 (dk_at dksX1_append_0 18 rfl rfl)
theorem dX1_append_19 : decode cX1_append 19 = .ok (.iconst 0, 1) := dk_3 (dk_at dksX1_append_0 19 rfl rfl)
theorem dX1_append_20 : decode cX1_append 20 = .ok (.iload_n 1, 1) := dk_27 (dk_at dksX1_append_0 20 rfl rfl)
theorem dX1_append_21 : decode cX1_append 21 = .ok (.iastore, 1) := dk_79 (dk_at dksX1_append_0 21 rfl rfl)
theorem dX1_append_22 : decode cX1_append 22 = .ok (.dup, 1) := dk_89 (dk_at dksX1_append_0 22 rfl rfl)
theorem dX1_append_23 : decode cX1_append 23 = .ok (.iconst 1, 1) := dk_4 (dk_at dksX1_append_0 23 rfl rfl)
theorem dX1_append_24 : decode cX1_append 24 = .ok (.iload_n 2, 1) := dk_28 (dk_at dksX1_append_1 0 rfl rfl)
theorem dX1_append_25 : decode cX1_append 25 = .ok (.iastore, 1) := dk_79 (dk_at dksX1_append_1 1 rfl rfl)
theorem dX1_append_26 : decode cX1_append 26 = .ok (.dup, 1) := dk_89 (dk_at dksX1_append_1 2 rfl rfl)
theorem dX1_append_27 : decode cX1_append 27 = .ok (.iconst 2, 1) := dk_5 (dk_at dksX1_append_1 3 rfl rfl)
theorem dX1_append_28 : decode cX1_append 28 = .ok (.iload_n 3, 1) := dk_29 (dk_at dksX1_append_1 4 rfl rfl)
theorem dX1_append_29 : decode cX1_append 29 = .ok (.iastore, 1) := dk_79 (dk_at dksX1_append_1 5 rfl rfl)
theorem dX1_append_30 : decode cX1_append 30 = .ok (.dup, 1) := dk_89 (dk_at dksX1_append_1 6 rfl rfl)
theorem dX1_append_31 : decode cX1_append 31 = .ok (.iconst 3, 1) := dk_6 (dk_at dksX1_append_1 7 rfl rfl)
theorem dX1_append_32 : decode cX1_append 32 = .ok (.iload 4, 2) := dk_21 4 (dk_at dksX1_append_1 8 rfl rfl)
theorem dX1_append_34 : decode cX1_append 34 = .ok (.iastore, 1) := dk_79 (dk_at dksX1_append_1 10 rfl rfl)
theorem dX1_append_35 : decode cX1_append 35 = .ok (.dup, 1) := dk_89 (dk_at dksX1_append_1 11 rfl rfl)
theorem dX1_append_36 : decode cX1_append 36 = .ok (.iconst 4, 1) := dk_7 (dk_at dksX1_append_1 12 rfl rfl)
theorem dX1_append_37 : decode cX1_append 37 = .ok (.iload 5, 2) := dk_21 5 (dk_at dksX1_append_1 13 rfl rfl)
theorem dX1_append_39 : decode cX1_append 39 = .ok (.iastore, 1) := dk_79 (dk_at dksX1_append_1 15 rfl rfl)
theorem dX1_append_40 : decode cX1_append 40 = .ok (.astore 6, 2) := dk_58 6 (dk_at dksX1_append_1 16 rfl rfl)
theorem dX1_append_42 : decode cX1_append 42 = .ok (.aload 6, 2) := dk_25 6 (dk_at dksX1_append_1 18 rfl rfl)
theorem dX1_append_44 : decode cX1_append 44 = .ok (.arraylength, 1) := dk_190 (dk_at dksX1_append_1 20 rfl rfl)
theorem dX1_append_45 : decode cX1_append 45 = .ok (.istore 7, 2) := dk_54 7 (dk_at dksX1_append_1 21 rfl rfl)
theorem dX1_append_47 : decode cX1_append 47 = .ok (.iconst 0, 1) := dk_3 (dk_at dksX1_append_1 23 rfl rfl)
theorem dX1_append_48 : decode cX1_append 48 = .ok (.istore 8, 2) := dk_54 8 (dk_at dksX1_append_2 0 rfl rfl)
theorem dX1_append_50 : decode cX1_append 50 = .ok (.iload 8, 2) := dk_21 8 (dk_at dksX1_append_2 2 rfl rfl)
theorem dX1_append_52 : decode cX1_append 52 = .ok (.iload 7, 2) := dk_21 7 (dk_at dksX1_append_2 4 rfl rfl)
theorem dX1_append_54 : decode cX1_append 54 = .ok (.if_icmp .ge 56, 3) := dk_162 0 56 (dk_at dksX1_append_2 6 rfl rfl)
theorem dX1_append_57 : decode cX1_append 57 = .ok (.aload 6, 2) := dk_25 6 (dk_at dksX1_append_2 9 rfl rfl)
theorem dX1_append_59 : decode cX1_append 59 = .ok (.iload 8, 2) := dk_21 8 (dk_at dksX1_append_2 11 rfl rfl)
theorem dX1_append_61 : decode cX1_append 61 = .ok (.iaload, 1) := dk_46 (dk_at dksX1_append_2 13 rfl rfl)
theorem dX1_append_62 : decode cX1_append 62 = .ok (.istore 9, 2) := dk_54 9 (dk_at dksX1_append_2 14 rfl rfl)
theorem dX1_append_64 : decode cX1_append 64 = .ok (.bipush 24, 2) := dk_16 24 (dk_at dksX1_append_2 16 rfl rfl)
theorem dX1_append_66 : decode cX1_append 66 = .ok (.istore 10, 2) := dk_54 10 (dk_at dksX1_append_2 18 rfl rfl)
theorem dX1_append_68 : decode cX1_append 68 = .ok (.iload 10, 2) := dk_21 10 (dk_at dksX1_append_2 20 rfl rfl)
theorem dX1_append_70 : decode cX1_append 70 = .ok (.ifCond .lt 34, 3) := dk_155 0 34 (dk_at dksX1_append_3 0 rfl rfl)
theorem dX1_append_73 : decode cX1_append 73 = .ok (.aload_n 0, 1) := dk_42 (dk_at dksX1_append_3 3 rfl rfl)
theorem dX1_append_74 : decode cX1_append 74 = .ok (.getfield 54, 3) := dk_180 0 54 (dk_at dksX1_append_3 4 rfl rfl)
theorem dX1_append_77 : decode cX1_append 77 = .ok (.aload_n 0, 1) := dk_42 (dk_at dksX1_append_3 7 rfl rfl)
theorem dX1_append_78 : decode cX1_append 78 = .ok (.getfield 151, 3) := dk_180 0 151 (dk_at dksX1_append_3 8 rfl rfl)
theorem dX1_append_81 : decode cX1_append 81 = .ok (.iload 9, 2) := dk_21 9 (dk_at dksX1_append_3 11 rfl rfl)
theorem dX1_append_83 : decode cX1_append 83 = .ok (.iload 10, 2) := dk_21 10 (dk_at dksX1_append_3 13 rfl rfl)
theorem dX1_append_85 : decode cX1_append 85 = .ok (.ishr, 1) := dk_122 (dk_at dksX1_append_3 15 rfl rfl)
theorem dX1_append_86 : decode cX1_append 86 = .ok (.i2b, 1) := dk_145 (dk_at dksX1_append_3 16 rfl rfl)
theorem dX1_append_87 : decode cX1_append 87 = .ok (.bastore, 1) := dk_84 (dk_at dksX1_append_3 17 rfl rfl)
theorem dX1_append_88 : decode cX1_append 88 = .ok (.aload_n 0, 1) := dk_42 (dk_at dksX1_append_3 18 rfl rfl)
theorem dX1_append_89 : decode cX1_append 89 = .ok (.dup, 1) := dk_89 (dk_at dksX1_append_3 19 rfl rfl)
theorem dX1_append_90 : decode cX1_append 90 = .ok (.getfield 151, 3) := dk_180 0 151 (dk_at dksX1_append_3 20 rfl rfl)
theorem dX1_append_93 : decode cX1_append 93 = .ok (.iconst 1, 1) := dk_4 (dk_at dksX1_append_3 23 rfl rfl)
theorem dX1_append_94 : decode cX1_append 94 = .ok (.iadd, 1) := dk_96 (dk_at dksX1_append_4 0 rfl rfl)
theorem dX1_append_95 : decode cX1_append 95 = .ok (.putfield 151, 3) := dk_181 0 151 (dk_at dksX1_append_4 1 rfl rfl)
theorem dX1_append_98 : decode cX1_append 98 = .ok (.iinc 10 (-8), 3) := dk_132 10 248 (dk_at dksX1_append_4 4 rfl rfl)
theorem dX1_append_101 : decode cX1_append 101 = .ok (.goto (-33), 3) := dk_167 255 223 (dk_at dksX1_append_4 7 rfl rfl)
theorem dX1_append_104 : decode cX1_append 104 = .ok (.iinc 8 1, 3) := dk_132 8 1 (dk_at dksX1_append_4 10 rfl rfl)
theorem dX1_append_107 : decode cX1_append 107 = .ok (.goto (-57), 3) := dk_167 255 199 (dk_at dksX1_append_4 13 rfl rfl)
theorem dX1_append_110 : decode cX1_append 110 = .ok (.aload_n 0, 1) := dk_42 (dk_at dksX1_append_4 16 rfl rfl)
theorem dX1_append_111 : decode cX1_append 111 = .ok (.getfield 151, 3) := dk_180 0 151 (dk_at dksX1_append_4 17 rfl rfl)
theorem dX1_append_114 : decode cX1_append 114 = .ok (.ireturn, 1) := dk_172 (dk_at dksX1_append_4 20 rfl rfl)
abbrev cX1_parseError : ByteArray := prog_1_method_21_code
def yX1_parseError : MethodName := ⟨RX1, "parseError", "()I"⟩
theorem dX1_parseError_0 : decode cX1_parseError 0 = .ok (.aload_n 0, 1) := by decide +kernel
theorem dX1_parseError_1 : decode cX1_parseError 1 = .ok (.getfield 154, 3) := by decide +kernel
theorem dX1_parseError_4 : decode cX1_parseError 4 = .ok (.ireturn, 1) := by decide +kernel
abbrev cX1_errorPosition : ByteArray := prog_1_method_22_code
def yX1_errorPosition : MethodName := ⟨RX1, "errorPosition", "()I"⟩
theorem dX1_errorPosition_0 : decode cX1_errorPosition 0 = .ok (.aload_n 0, 1) := by decide +kernel
theorem dX1_errorPosition_1 : decode cX1_errorPosition 1 = .ok (.getfield 58, 3) := by decide +kernel
theorem dX1_errorPosition_4 : decode cX1_errorPosition 4 = .ok (.ireturn, 1) := by decide +kernel
abbrev cX1_buffered : ByteArray := prog_1_method_23_code
def yX1_buffered : MethodName := ⟨RX1, "buffered", "()I"⟩
theorem dX1_buffered_0 : decode cX1_buffered 0 = .ok (.aload_n 0, 1) := by decide +kernel
theorem dX1_buffered_1 : decode cX1_buffered 1 = .ok (.getfield 151, 3) := by decide +kernel
theorem dX1_buffered_4 : decode cX1_buffered 4 = .ok (.ireturn, 1) := by decide +kernel
abbrev cX1_mics : ByteArray := prog_1_method_24_code
def yX1_mics : MethodName := ⟨RX1, "mics", "()I"⟩
def dkwX1_mics_1 : List UInt8 := [185, 0, 117, 1, 0, 172]
abbrev dktX1_mics_1 : List UInt8 := dkwX1_mics_1 ++ []
def dkwX1_mics_0 : List UInt8 := [42, 180, 0, 95, 199, 0, 7, 3, 167, 0, 18, 42, 180, 0, 95, 180, 0, 107, 180, 0, 111]
abbrev dktX1_mics_0 : List UInt8 := dkwX1_mics_0 ++ dktX1_mics_1
theorem dksX1_mics_0 : cX1_mics.data.toList.drop 0 = dktX1_mics_0 := by decide +kernel
theorem dksX1_mics_1 : cX1_mics.data.toList.drop 21 = dktX1_mics_1 := dk_seg dksX1_mics_0 21 rfl rfl
theorem dX1_mics_0 : decode cX1_mics 0 = .ok (.aload_n 0, 1) := dk_42 (dk_at dksX1_mics_0 0 rfl rfl)
theorem dX1_mics_1 : decode cX1_mics 1 = .ok (.getfield 95, 3) := dk_180 0 95 (dk_at dksX1_mics_0 1 rfl rfl)
theorem dX1_mics_4 : decode cX1_mics 4 = .ok (.ifnonnull 7, 3) := dk_199 0 7 (dk_at dksX1_mics_0 4 rfl rfl)
theorem dX1_mics_7 : decode cX1_mics 7 = .ok (.iconst 0, 1) := dk_3 (dk_at dksX1_mics_0 7 rfl rfl)
theorem dX1_mics_8 : decode cX1_mics 8 = .ok (.goto 18, 3) := dk_167 0 18 (dk_at dksX1_mics_0 8 rfl rfl)
theorem dX1_mics_11 : decode cX1_mics 11 = .ok (.aload_n 0, 1) := dk_42 (dk_at dksX1_mics_0 11 rfl rfl)
theorem dX1_mics_12 : decode cX1_mics 12 = .ok (.getfield 95, 3) := dk_180 0 95 (dk_at dksX1_mics_0 12 rfl rfl)
theorem dX1_mics_15 : decode cX1_mics 15 = .ok (.getfield 107, 3) := dk_180 0 107 (dk_at dksX1_mics_0 15 rfl rfl)
theorem dX1_mics_18 : decode cX1_mics 18 = .ok (.getfield 111, 3) := dk_180 0 111 (dk_at dksX1_mics_0 18 rfl rfl)
theorem dX1_mics_21 : decode cX1_mics 21 = .ok (.invokeinterface 117 1, 5) := by decide +kernel
theorem dX1_mics_26 : decode cX1_mics 26 = .ok (.ireturn, 1) := dk_172 (dk_at dksX1_mics_1 5 rfl rfl)
abbrev cX1_columns : ByteArray := prog_1_method_27_code
def yX1_columns : MethodName := ⟨RX1, "columns", "()I"⟩
def dkwX1_columns_0 : List UInt8 := [42, 180, 0, 95, 199, 0, 7, 3, 167, 0, 13, 42, 180, 0, 95, 180, 0, 107, 180, 0, 210, 172]
abbrev dktX1_columns_0 : List UInt8 := dkwX1_columns_0 ++ []
theorem dksX1_columns_0 : cX1_columns.data.toList.drop 0 = dktX1_columns_0 := by decide +kernel
theorem dX1_columns_0 : decode cX1_columns 0 = .ok (.aload_n 0, 1) := dk_42 (dk_at dksX1_columns_0 0 rfl rfl)
theorem dX1_columns_1 : decode cX1_columns 1 = .ok (.getfield 95, 3) := dk_180 0 95 (dk_at dksX1_columns_0 1 rfl rfl)
theorem dX1_columns_4 : decode cX1_columns 4 = .ok (.ifnonnull 7, 3) := dk_199 0 7 (dk_at dksX1_columns_0 4 rfl rfl)
theorem dX1_columns_7 : decode cX1_columns 7 = .ok (.iconst 0, 1) := dk_3 (dk_at dksX1_columns_0 7 rfl rfl)
theorem dX1_columns_8 : decode cX1_columns 8 = .ok (.goto 13, 3) := dk_167 0 13 (dk_at dksX1_columns_0 8 rfl rfl)
theorem dX1_columns_11 : decode cX1_columns 11 = .ok (.aload_n 0, 1) := dk_42 (dk_at dksX1_columns_0 11 rfl rfl)
theorem dX1_columns_12 : decode cX1_columns 12 = .ok (.getfield 95, 3) := dk_180 0 95 (dk_at dksX1_columns_0 12 rfl rfl)
theorem dX1_columns_15 : decode cX1_columns 15 = .ok (.getfield 107, 3) := dk_180 0 107 (dk_at dksX1_columns_0 15 rfl rfl)
theorem dX1_columns_18 : decode cX1_columns 18 = .ok (.getfield 210, 3) := dk_180 0 210 (dk_at dksX1_columns_0 18 rfl rfl)
theorem dX1_columns_21 : decode cX1_columns 21 = .ok (.ireturn, 1) := dk_172 (dk_at dksX1_columns_0 21 rfl rfl)
abbrev cX1_rows : ByteArray := prog_1_method_28_code
def yX1_rows : MethodName := ⟨RX1, "rows", "()I"⟩
def dkwX1_rows_0 : List UInt8 := [42, 180, 0, 95, 199, 0, 7, 3, 167, 0, 13, 42, 180, 0, 95, 180, 0, 107, 180, 0, 213, 172]
abbrev dktX1_rows_0 : List UInt8 := dkwX1_rows_0 ++ []
theorem dksX1_rows_0 : cX1_rows.data.toList.drop 0 = dktX1_rows_0 := by decide +kernel
theorem dX1_rows_0 : decode cX1_rows 0 = .ok (.aload_n 0, 1) := dk_42 (dk_at dksX1_rows_0 0 rfl rfl)
theorem dX1_rows_1 : decode cX1_rows 1 = .ok (.getfield 95, 3) := dk_180 0 95 (dk_at dksX1_rows_0 1 rfl rfl)
theorem dX1_rows_4 : decode cX1_rows 4 = .ok (.ifnonnull 7, 3) := dk_199 0 7 (dk_at dksX1_rows_0 4 rfl rfl)
theorem dX1_rows_7 : decode cX1_rows 7 = .ok (.iconst 0, 1) := dk_3 (dk_at dksX1_rows_0 7 rfl rfl)
theorem dX1_rows_8 : decode cX1_rows 8 = .ok (.goto 13, 3) := dk_167 0 13 (dk_at dksX1_rows_0 8 rfl rfl)
theorem dX1_rows_11 : decode cX1_rows 11 = .ok (.aload_n 0, 1) := dk_42 (dk_at dksX1_rows_0 11 rfl rfl)
theorem dX1_rows_12 : decode cX1_rows 12 = .ok (.getfield 95, 3) := dk_180 0 95 (dk_at dksX1_rows_0 12 rfl rfl)
theorem dX1_rows_15 : decode cX1_rows 15 = .ok (.getfield 107, 3) := dk_180 0 107 (dk_at dksX1_rows_0 15 rfl rfl)
theorem dX1_rows_18 : decode cX1_rows 18 = .ok (.getfield 213, 3) := dk_180 0 213 (dk_at dksX1_rows_0 18 rfl rfl)
theorem dX1_rows_21 : decode cX1_rows 21 = .ok (.ireturn, 1) := dk_172 (dk_at dksX1_rows_0 21 rfl rfl)
abbrev cX1_sources : ByteArray := prog_1_method_30_code
def yX1_sources : MethodName := ⟨RX1, "sources", "()I"⟩
def dkwX1_sources_0 : List UInt8 := [42, 180, 0, 95, 199, 0, 7, 3, 167, 0, 11, 42, 180, 0, 95, 180, 0, 129, 190, 172]
abbrev dktX1_sources_0 : List UInt8 := dkwX1_sources_0 ++ []
theorem dksX1_sources_0 : cX1_sources.data.toList.drop 0 = dktX1_sources_0 := by decide +kernel
theorem dX1_sources_0 : decode cX1_sources 0 = .ok (.aload_n 0, 1) := dk_42 (dk_at dksX1_sources_0 0 rfl rfl)
theorem dX1_sources_1 : decode cX1_sources 1 = .ok (.getfield 95, 3) := dk_180 0 95 (dk_at dksX1_sources_0 1 rfl rfl)
theorem dX1_sources_4 : decode cX1_sources 4 = .ok (.ifnonnull 7, 3) := dk_199 0 7 (dk_at dksX1_sources_0 4 rfl rfl)
theorem dX1_sources_7 : decode cX1_sources 7 = .ok (.iconst 0, 1) := dk_3 (dk_at dksX1_sources_0 7 rfl rfl)
theorem dX1_sources_8 : decode cX1_sources 8 = .ok (.goto 11, 3) := dk_167 0 11 (dk_at dksX1_sources_0 8 rfl rfl)
theorem dX1_sources_11 : decode cX1_sources 11 = .ok (.aload_n 0, 1) := dk_42 (dk_at dksX1_sources_0 11 rfl rfl)
theorem dX1_sources_12 : decode cX1_sources 12 = .ok (.getfield 95, 3) := dk_180 0 95 (dk_at dksX1_sources_0 12 rfl rfl)
theorem dX1_sources_15 : decode cX1_sources 15 = .ok (.getfield 129, 3) := dk_180 0 129 (dk_at dksX1_sources_0 15 rfl rfl)
theorem dX1_sources_18 : decode cX1_sources 18 = .ok (.arraylength, 1) := dk_190 (dk_at dksX1_sources_0 18 rfl rfl)
theorem dX1_sources_19 : decode cX1_sources 19 = .ok (.ireturn, 1) := dk_172 (dk_at dksX1_sources_0 19 rfl rfl)
abbrev cX1_samples : ByteArray := prog_1_method_34_code
def yX1_samples : MethodName := ⟨RX1, "samples", "()I"⟩
def dkwX1_samples_0 : List UInt8 := [42, 180, 0, 95, 199, 0, 7, 3, 167, 0, 13, 42, 180, 0, 95, 180, 0, 107, 180, 0, 140, 172]
abbrev dktX1_samples_0 : List UInt8 := dkwX1_samples_0 ++ []
theorem dksX1_samples_0 : cX1_samples.data.toList.drop 0 = dktX1_samples_0 := by decide +kernel
theorem dX1_samples_0 : decode cX1_samples 0 = .ok (.aload_n 0, 1) := dk_42 (dk_at dksX1_samples_0 0 rfl rfl)
theorem dX1_samples_1 : decode cX1_samples 1 = .ok (.getfield 95, 3) := dk_180 0 95 (dk_at dksX1_samples_0 1 rfl rfl)
theorem dX1_samples_4 : decode cX1_samples 4 = .ok (.ifnonnull 7, 3) := dk_199 0 7 (dk_at dksX1_samples_0 4 rfl rfl)
theorem dX1_samples_7 : decode cX1_samples 7 = .ok (.iconst 0, 1) := dk_3 (dk_at dksX1_samples_0 7 rfl rfl)
theorem dX1_samples_8 : decode cX1_samples 8 = .ok (.goto 13, 3) := dk_167 0 13 (dk_at dksX1_samples_0 8 rfl rfl)
theorem dX1_samples_11 : decode cX1_samples 11 = .ok (.aload_n 0, 1) := dk_42 (dk_at dksX1_samples_0 11 rfl rfl)
theorem dX1_samples_12 : decode cX1_samples 12 = .ok (.getfield 95, 3) := dk_180 0 95 (dk_at dksX1_samples_0 12 rfl rfl)
theorem dX1_samples_15 : decode cX1_samples 15 = .ok (.getfield 107, 3) := dk_180 0 107 (dk_at dksX1_samples_0 15 rfl rfl)
theorem dX1_samples_18 : decode cX1_samples 18 = .ok (.getfield 140, 3) := dk_180 0 140 (dk_at dksX1_samples_0 18 rfl rfl)
theorem dX1_samples_21 : decode cX1_samples 21 = .ok (.ireturn, 1) := dk_172 (dk_at dksX1_samples_0 21 rfl rfl)
abbrev cX1_undoable : ByteArray := prog_1_method_87_code
def yX1_undoable : MethodName := ⟨RX1, "undoable", "()I"⟩
def dkwX1_undoable_0 : List UInt8 := [42, 180, 0, 65, 182, 1, 197, 172]
abbrev dktX1_undoable_0 : List UInt8 := dkwX1_undoable_0 ++ []
theorem dksX1_undoable_0 : cX1_undoable.data.toList.drop 0 = dktX1_undoable_0 := by decide +kernel
theorem dX1_undoable_0 : decode cX1_undoable 0 = .ok (.aload_n 0, 1) := dk_42 (dk_at dksX1_undoable_0 0 rfl rfl)
theorem dX1_undoable_1 : decode cX1_undoable 1 = .ok (.getfield 65, 3) := dk_180 0 65 (dk_at dksX1_undoable_0 1 rfl rfl)
theorem dX1_undoable_4 : decode cX1_undoable 4 = .ok (.invokevirtual 453, 3) := dk_182 1 197 (dk_at dksX1_undoable_0 4 rfl rfl)
theorem dX1_undoable_7 : decode cX1_undoable 7 = .ok (.ireturn, 1) := dk_172 (dk_at dksX1_undoable_0 7 rfl rfl)
abbrev cX1_load : ByteArray := prog_1_method_20_code
def yX1_load : MethodName := ⟨RX1, "load", "(I)I"⟩
def dkwX1_load_5 : List UInt8 := [187, 0, 82, 89, 183, 0, 84, 191, 78, 42, 3, 181, 0, 151, 45, 191]
abbrev dktX1_load_5 : List UInt8 := dkwX1_load_5 ++ []
def dkwX1_load_4 : List UInt8 := [181, 0, 151, 28, 172, 77, 42, 44, 180, 0, 177, 181, 0, 154, 42, 44, 180, 0, 180, 181, 0, 58]
abbrev dktX1_load_4 : List UInt8 := dkwX1_load_4 ++ dktX1_load_5
def dkwX1_load_3 : List UInt8 := [28, 1, 83, 132, 2, 1, 167, 255, 241, 42, 180, 0, 95, 180, 0, 107, 182, 0, 126, 61, 42, 3]
abbrev dktX1_load_3 : List UInt8 := dkwX1_load_3 ++ dktX1_load_4
def dkwX1_load_2 : List UInt8 := [180, 0, 95, 182, 0, 169, 42, 180, 0, 65, 182, 0, 172, 3, 61, 28, 5, 162, 0, 16, 42, 180, 0, 71]
abbrev dktX1_load_2 : List UInt8 := dkwX1_load_2 ++ dktX1_load_3
def dkwX1_load_1 : List UInt8 := [89, 187, 0, 157, 89, 42, 180, 0, 54, 27, 183, 0, 159, 182, 0, 162, 183, 0, 166, 181, 0, 95, 42]
abbrev dktX1_load_1 : List UInt8 := dkwX1_load_1 ++ dktX1_load_2
def dkwX1_load_0 : List UInt8 := [27, 42, 180, 0, 151, 4, 96, 184, 0, 122, 42, 3, 181, 0, 154, 42, 2, 181, 0, 58, 42, 187, 0, 69]
abbrev dktX1_load_0 : List UInt8 := dkwX1_load_0 ++ dktX1_load_1
theorem dksX1_load_0 : cX1_load.data.toList.drop 0 = dktX1_load_0 := by decide +kernel
theorem dksX1_load_1 : cX1_load.data.toList.drop 24 = dktX1_load_1 := dk_seg dksX1_load_0 24 rfl rfl
theorem dksX1_load_2 : cX1_load.data.toList.drop 47 = dktX1_load_2 := dk_seg dksX1_load_1 23 rfl rfl
theorem dksX1_load_3 : cX1_load.data.toList.drop 71 = dktX1_load_3 := dk_seg dksX1_load_2 24 rfl rfl
theorem dksX1_load_4 : cX1_load.data.toList.drop 93 = dktX1_load_4 := dk_seg dksX1_load_3 22 rfl rfl
theorem dksX1_load_5 : cX1_load.data.toList.drop 115 = dktX1_load_5 := dk_seg dksX1_load_4 22 rfl rfl
theorem dX1_load_0 : decode cX1_load 0 = .ok (.iload_n 1, 1) := dk_27 (dk_at dksX1_load_0 0 rfl rfl)
theorem dX1_load_1 : decode cX1_load 1 = .ok (.aload_n 0, 1) := dk_42 (dk_at dksX1_load_0 1 rfl rfl)
theorem dX1_load_2 : decode cX1_load 2 = .ok (.getfield 151, 3) := dk_180 0 151 (dk_at dksX1_load_0 2 rfl rfl)
theorem dX1_load_5 : decode cX1_load 5 = .ok (.iconst 1, 1) := dk_4 (dk_at dksX1_load_0 5 rfl rfl)
theorem dX1_load_6 : decode cX1_load 6 = .ok (.iadd, 1) := dk_96 (dk_at dksX1_load_0 6 rfl rfl)
theorem dX1_load_7 : decode cX1_load 7 = .ok (.invokestatic 122, 3) := dk_184 0 122 (dk_at dksX1_load_0 7 rfl rfl)
theorem dX1_load_10 : decode cX1_load 10 = .ok (.aload_n 0, 1) := dk_42 (dk_at dksX1_load_0 10 rfl rfl)
theorem dX1_load_11 : decode cX1_load 11 = .ok (.iconst 0, 1) := dk_3 (dk_at dksX1_load_0 11 rfl rfl)
theorem dX1_load_12 : decode cX1_load 12 = .ok (.putfield 154, 3) := dk_181 0 154 (dk_at dksX1_load_0 12 rfl rfl)
theorem dX1_load_15 : decode cX1_load 15 = .ok (.aload_n 0, 1) := dk_42 (dk_at dksX1_load_0 15 rfl rfl)
theorem dX1_load_16 : decode cX1_load 16 = .ok (.iconst (-1), 1) := dk_2 (dk_at dksX1_load_0 16 rfl rfl)
theorem dX1_load_17 : decode cX1_load 17 = .ok (.putfield 58, 3) := dk_181 0 58 (dk_at dksX1_load_0 17 rfl rfl)
theorem dX1_load_20 : decode cX1_load 20 = .ok (.aload_n 0, 1) := dk_42 (dk_at dksX1_load_0 20 rfl rfl)
theorem dX1_load_21 : decode cX1_load 21 = .ok (.new 69, 3) := dk_187 0 69 (dk_at dksX1_load_0 21 rfl rfl)
theorem dX1_load_24 : decode cX1_load 24 = .ok (.dup, 1) := dk_89 (dk_at dksX1_load_1 0 rfl rfl)
theorem dX1_load_25 : decode cX1_load 25 = .ok (.new 157, 3) := dk_187 0 157 (dk_at dksX1_load_1 1 rfl rfl)
theorem dX1_load_28 : decode cX1_load 28 = .ok (.dup, 1) := dk_89 (dk_at dksX1_load_1 4 rfl rfl)
theorem dX1_load_29 : decode cX1_load 29 = .ok (.aload_n 0, 1) := dk_42 (dk_at dksX1_load_1 5 rfl rfl)
theorem dX1_load_30 : decode cX1_load 30 = .ok (.getfield 54, 3) := dk_180 0 54 (dk_at dksX1_load_1 6 rfl rfl)
theorem dX1_load_33 : decode cX1_load 33 = .ok (.iload_n 1, 1) := dk_27 (dk_at dksX1_load_1 9 rfl rfl)
theorem dX1_load_34 : decode cX1_load 34 = .ok (.invokespecial 159, 3) := dk_183 0 159 (dk_at dksX1_load_1 10 rfl rfl)
theorem dX1_load_37 : decode cX1_load 37 = .ok (.invokevirtual 162, 3) := dk_182 0 162 (dk_at dksX1_load_1 13 rfl rfl)
theorem dX1_load_40 : decode cX1_load 40 = .ok (.invokespecial 166, 3) := dk_183 0 166 (dk_at dksX1_load_1 16 rfl rfl)
theorem dX1_load_43 : decode cX1_load 43 = .ok (.putfield 95, 3) := dk_181 0 95 (dk_at dksX1_load_1 19 rfl rfl)
theorem dX1_load_46 : decode cX1_load 46 = .ok (.aload_n 0, 1) := dk_42 (dk_at dksX1_load_1 22 rfl rfl)
theorem dX1_load_47 : decode cX1_load 47 = .ok (.getfield 95, 3) := dk_180 0 95 (dk_at dksX1_load_2 0 rfl rfl)
theorem dX1_load_50 : decode cX1_load 50 = .ok (.invokevirtual 169, 3) := dk_182 0 169 (dk_at dksX1_load_2 3 rfl rfl)
theorem dX1_load_53 : decode cX1_load 53 = .ok (.aload_n 0, 1) := dk_42 (dk_at dksX1_load_2 6 rfl rfl)
theorem dX1_load_54 : decode cX1_load 54 = .ok (.getfield 65, 3) := dk_180 0 65 (dk_at dksX1_load_2 7 rfl rfl)
theorem dX1_load_57 : decode cX1_load 57 = .ok (.invokevirtual 172, 3) := dk_182 0 172 (dk_at dksX1_load_2 10 rfl rfl)
theorem dX1_load_60 : decode cX1_load 60 = .ok (.iconst 0, 1) := dk_3 (dk_at dksX1_load_2 13 rfl rfl)
theorem dX1_load_61 : decode cX1_load 61 = .ok (.istore_n 2, 1) := dk_61 (dk_at dksX1_load_2 14 rfl rfl)
theorem dX1_load_62 : decode cX1_load 62 = .ok (.iload_n 2, 1) := dk_28 (dk_at dksX1_load_2 15 rfl rfl)
theorem dX1_load_63 : decode cX1_load 63 = .ok (.iconst 2, 1) := dk_5 (dk_at dksX1_load_2 16 rfl rfl)
theorem dX1_load_64 : decode cX1_load 64 = .ok (.if_icmp .ge 16, 3) := dk_162 0 16 (dk_at dksX1_load_2 17 rfl rfl)
theorem dX1_load_67 : decode cX1_load 67 = .ok (.aload_n 0, 1) := dk_42 (dk_at dksX1_load_2 20 rfl rfl)
theorem dX1_load_68 : decode cX1_load 68 = .ok (.getfield 71, 3) := dk_180 0 71 (dk_at dksX1_load_2 21 rfl rfl)
theorem dX1_load_71 : decode cX1_load 71 = .ok (.iload_n 2, 1) := dk_28 (dk_at dksX1_load_3 0 rfl rfl)
theorem dX1_load_72 : decode cX1_load 72 = .ok (.aconst_null, 1) := dk_1 (dk_at dksX1_load_3 1 rfl rfl)
theorem dX1_load_73 : decode cX1_load 73 = .ok (.aastore, 1) := dk_83 (dk_at dksX1_load_3 2 rfl rfl)
theorem dX1_load_74 : decode cX1_load 74 = .ok (.iinc 2 1, 3) := dk_132 2 1 (dk_at dksX1_load_3 3 rfl rfl)
theorem dX1_load_77 : decode cX1_load 77 = .ok (.goto (-15), 3) := dk_167 255 241 (dk_at dksX1_load_3 6 rfl rfl)
theorem dX1_load_80 : decode cX1_load 80 = .ok (.aload_n 0, 1) := dk_42 (dk_at dksX1_load_3 9 rfl rfl)
theorem dX1_load_81 : decode cX1_load 81 = .ok (.getfield 95, 3) := dk_180 0 95 (dk_at dksX1_load_3 10 rfl rfl)
theorem dX1_load_84 : decode cX1_load 84 = .ok (.getfield 107, 3) := dk_180 0 107 (dk_at dksX1_load_3 13 rfl rfl)
theorem dX1_load_87 : decode cX1_load 87 = .ok (.invokevirtual 126, 3) := dk_182 0 126 (dk_at dksX1_load_3 16 rfl rfl)
theorem dX1_load_90 : decode cX1_load 90 = .ok (.istore_n 2, 1) := dk_61 (dk_at dksX1_load_3 19 rfl rfl)
theorem dX1_load_91 : decode cX1_load 91 = .ok (.aload_n 0, 1) := dk_42 (dk_at dksX1_load_3 20 rfl rfl)
theorem dX1_load_92 : decode cX1_load 92 = .ok (.iconst 0, 1) := dk_3 (dk_at dksX1_load_3 21 rfl rfl)
theorem dX1_load_93 : decode cX1_load 93 = .ok (.putfield 151, 3) := dk_181 0 151 (dk_at dksX1_load_4 0 rfl rfl)
theorem dX1_load_96 : decode cX1_load 96 = .ok (.iload_n 2, 1) := dk_28 (dk_at dksX1_load_4 3 rfl rfl)
theorem dX1_load_97 : decode cX1_load 97 = .ok (.ireturn, 1) := dk_172 (dk_at dksX1_load_4 4 rfl rfl)
theorem dX1_load_98 : decode cX1_load 98 = .ok (.astore_n 2, 1) := dk_77 (dk_at dksX1_load_4 5 rfl rfl)
theorem dX1_load_99 : decode cX1_load 99 = .ok (.aload_n 0, 1) := dk_42 (dk_at dksX1_load_4 6 rfl rfl)
theorem dX1_load_100 : decode cX1_load 100 = .ok (.aload_n 2, 1) := dk_44 (dk_at dksX1_load_4 7 rfl rfl)
theorem dX1_load_101 : decode cX1_load 101 = .ok (.getfield 177, 3) := dk_180 0 177 (dk_at dksX1_load_4 8 rfl rfl)
theorem dX1_load_104 : decode cX1_load 104 = .ok (.putfield 154, 3) := dk_181 0 154 (dk_at dksX1_load_4 11 rfl rfl)
theorem dX1_load_107 : decode cX1_load 107 = .ok (.aload_n 0, 1) := dk_42 (dk_at dksX1_load_4 14 rfl rfl)
theorem dX1_load_108 : decode cX1_load 108 = .ok (.aload_n 2, 1) := dk_44 (dk_at dksX1_load_4 15 rfl rfl)
theorem dX1_load_109 : decode cX1_load 109 = .ok (.getfield 180, 3) := dk_180 0 180 (dk_at dksX1_load_4 16 rfl rfl)
theorem dX1_load_112 : decode cX1_load 112 = .ok (.putfield 58, 3) := dk_181 0 58 (dk_at dksX1_load_4 19 rfl rfl)
theorem dX1_load_115 : decode cX1_load 115 = .ok (.new 82, 3) := dk_187 0 82 (dk_at dksX1_load_5 0 rfl rfl)
theorem dX1_load_118 : decode cX1_load 118 = .ok (.dup, 1) := dk_89 (dk_at dksX1_load_5 3 rfl rfl)
theorem dX1_load_119 : decode cX1_load 119 = .ok (.invokespecial 84, 3) := dk_183 0 84 (dk_at dksX1_load_5 4 rfl rfl)
theorem dX1_load_122 : decode cX1_load 122 = .ok (.athrow, 1) := dk_191 (dk_at dksX1_load_5 7 rfl rfl)
theorem dX1_load_123 : decode cX1_load 123 = .ok (.astore_n 3, 1) := dk_78 (dk_at dksX1_load_5 8 rfl rfl)
theorem dX1_load_124 : decode cX1_load 124 = .ok (.aload_n 0, 1) := dk_42 (dk_at dksX1_load_5 9 rfl rfl)
theorem dX1_load_125 : decode cX1_load 125 = .ok (.iconst 0, 1) := dk_3 (dk_at dksX1_load_5 10 rfl rfl)
theorem dX1_load_126 : decode cX1_load 126 = .ok (.putfield 151, 3) := dk_181 0 151 (dk_at dksX1_load_5 11 rfl rfl)
theorem dX1_load_129 : decode cX1_load 129 = .ok (.aload_n 3, 1) := dk_45 (dk_at dksX1_load_5 14 rfl rfl)
theorem dX1_load_130 : decode cX1_load 130 = .ok (.athrow, 1) := dk_191 (dk_at dksX1_load_5 15 rfl rfl)
abbrev cX1_checkIndex : ByteArray := prog_1_method_8_code
def yX1_checkIndex : MethodName := ⟨RX1, "checkIndex", "(II)V"⟩
def dkwX1_checkIndex_0 : List UInt8 := [26, 133, 9, 27, 4, 100, 133, 184, 0, 85, 154, 0, 11, 187, 0, 89, 89, 183, 0, 91, 191, 177]
abbrev dktX1_checkIndex_0 : List UInt8 := dkwX1_checkIndex_0 ++ []
theorem dksX1_checkIndex_0 : cX1_checkIndex.data.toList.drop 0 = dktX1_checkIndex_0 := by decide +kernel
theorem dX1_checkIndex_0 : decode cX1_checkIndex 0 = .ok (.iload_n 0, 1) := dk_26 (dk_at dksX1_checkIndex_0 0 rfl rfl)
theorem dX1_checkIndex_1 : decode cX1_checkIndex 1 = .ok (.i2l, 1) := dk_133 (dk_at dksX1_checkIndex_0 1 rfl rfl)
theorem dX1_checkIndex_2 : decode cX1_checkIndex 2 = .ok (.lconst 0, 1) := dk_9 (dk_at dksX1_checkIndex_0 2 rfl rfl)
theorem dX1_checkIndex_3 : decode cX1_checkIndex 3 = .ok (.iload_n 1, 1) := dk_27 (dk_at dksX1_checkIndex_0 3 rfl rfl)
theorem dX1_checkIndex_4 : decode cX1_checkIndex 4 = .ok (.iconst 1, 1) := dk_4 (dk_at dksX1_checkIndex_0 4 rfl rfl)
theorem dX1_checkIndex_5 : decode cX1_checkIndex 5 = .ok (.isub, 1) := dk_100 (dk_at dksX1_checkIndex_0 5 rfl rfl)
theorem dX1_checkIndex_6 : decode cX1_checkIndex 6 = .ok (.i2l, 1) := dk_133 (dk_at dksX1_checkIndex_0 6 rfl rfl)
theorem dX1_checkIndex_7 : decode cX1_checkIndex 7 = .ok (.invokestatic 85, 3) := dk_184 0 85 (dk_at dksX1_checkIndex_0 7 rfl rfl)
theorem dX1_checkIndex_10 : decode cX1_checkIndex 10 = .ok (.ifCond .ne 11, 3) := dk_154 0 11 (dk_at dksX1_checkIndex_0 10 rfl rfl)
theorem dX1_checkIndex_13 : decode cX1_checkIndex 13 = .ok (.new 89, 3) := dk_187 0 89 (dk_at dksX1_checkIndex_0 13 rfl rfl)
theorem dX1_checkIndex_16 : decode cX1_checkIndex 16 = .ok (.dup, 1) := dk_89 (dk_at dksX1_checkIndex_0 16 rfl rfl)
theorem dX1_checkIndex_17 : decode cX1_checkIndex 17 = .ok (.invokespecial 91, 3) := dk_183 0 91 (dk_at dksX1_checkIndex_0 17 rfl rfl)
theorem dX1_checkIndex_20 : decode cX1_checkIndex 20 = .ok (.athrow, 1) := dk_191 (dk_at dksX1_checkIndex_0 20 rfl rfl)
theorem dX1_checkIndex_21 : decode cX1_checkIndex 21 = .ok (.return_, 1) := dk_177 (dk_at dksX1_checkIndex_0 21 rfl rfl)
abbrev cX1_in : ByteArray := prog_1_method_1_code
def yX1_in : MethodName := ⟨RX1, "in", "(JJJ)Z"⟩
def dkwX1_in_0 : List UInt8 := [30, 32, 148, 155, 0, 14, 30, 22, 4, 148, 157, 0, 7, 4, 167, 0, 4, 3, 172]
abbrev dktX1_in_0 : List UInt8 := dkwX1_in_0 ++ []
theorem dksX1_in_0 : cX1_in.data.toList.drop 0 = dktX1_in_0 := by decide +kernel
theorem dX1_in_0 : decode cX1_in 0 = .ok (.lload_n 0, 1) := dk_30 (dk_at dksX1_in_0 0 rfl rfl)
theorem dX1_in_1 : decode cX1_in 1 = .ok (.lload_n 2, 1) := dk_32 (dk_at dksX1_in_0 1 rfl rfl)
theorem dX1_in_2 : decode cX1_in 2 = .ok (.lcmp, 1) := dk_148 (dk_at dksX1_in_0 2 rfl rfl)
theorem dX1_in_3 : decode cX1_in 3 = .ok (.ifCond .lt 14, 3) := dk_155 0 14 (dk_at dksX1_in_0 3 rfl rfl)
theorem dX1_in_6 : decode cX1_in 6 = .ok (.lload_n 0, 1) := dk_30 (dk_at dksX1_in_0 6 rfl rfl)
theorem dX1_in_7 : decode cX1_in 7 = .ok (.lload 4, 2) := dk_22 4 (dk_at dksX1_in_0 7 rfl rfl)
theorem dX1_in_9 : decode cX1_in 9 = .ok (.lcmp, 1) := dk_148 (dk_at dksX1_in_0 9 rfl rfl)
theorem dX1_in_10 : decode cX1_in 10 = .ok (.ifCond .gt 7, 3) := dk_157 0 7 (dk_at dksX1_in_0 10 rfl rfl)
theorem dX1_in_13 : decode cX1_in 13 = .ok (.iconst 1, 1) := dk_4 (dk_at dksX1_in_0 13 rfl rfl)
theorem dX1_in_14 : decode cX1_in 14 = .ok (.goto 4, 3) := dk_167 0 4 (dk_at dksX1_in_0 14 rfl rfl)
theorem dX1_in_17 : decode cX1_in 17 = .ok (.iconst 0, 1) := dk_3 (dk_at dksX1_in_0 17 rfl rfl)
theorem dX1_in_18 : decode cX1_in 18 = .ok (.ireturn, 1) := dk_172 (dk_at dksX1_in_0 18 rfl rfl)
abbrev cX1_root : ByteArray := prog_1_method_2_code
def yX1_root : MethodName := ⟨RX1, "root", "(J)I"⟩
def dkwX1_root_1 : List UInt8 := [148, 157, 0, 8, 32, 22, 4, 97, 65, 22, 4, 4, 123, 55, 4, 167, 255, 224, 32, 136, 172]
abbrev dktX1_root_1 : List UInt8 := dkwX1_root_1 ++ []
def dkwX1_root_0 : List UInt8 := [9, 65, 20, 0, 1, 55, 4, 22, 4, 9, 148, 158, 0, 31, 32, 22, 4, 97, 32, 22, 4, 97, 105, 30]
abbrev dktX1_root_0 : List UInt8 := dkwX1_root_0 ++ dktX1_root_1
theorem dksX1_root_0 : cX1_root.data.toList.drop 0 = dktX1_root_0 := by decide +kernel
theorem dksX1_root_1 : cX1_root.data.toList.drop 24 = dktX1_root_1 := dk_seg dksX1_root_0 24 rfl rfl
theorem dX1_root_0 : decode cX1_root 0 = .ok (.lconst 0, 1) := dk_9 (dk_at dksX1_root_0 0 rfl rfl)
theorem dX1_root_1 : decode cX1_root 1 = .ok (.lstore_n 2, 1) := dk_65 (dk_at dksX1_root_0 1 rfl rfl)
theorem dX1_root_2 : decode cX1_root 2 = .ok (.ldc2_w 1, 3) := dk_20 0 1 (dk_at dksX1_root_0 2 rfl rfl)
theorem dX1_root_5 : decode cX1_root 5 = .ok (.lstore 4, 2) := dk_55 4 (dk_at dksX1_root_0 5 rfl rfl)
theorem dX1_root_7 : decode cX1_root 7 = .ok (.lload 4, 2) := dk_22 4 (dk_at dksX1_root_0 7 rfl rfl)
theorem dX1_root_9 : decode cX1_root 9 = .ok (.lconst 0, 1) := dk_9 (dk_at dksX1_root_0 9 rfl rfl)
theorem dX1_root_10 : decode cX1_root 10 = .ok (.lcmp, 1) := dk_148 (dk_at dksX1_root_0 10 rfl rfl)
theorem dX1_root_11 : decode cX1_root 11 = .ok (.ifCond .le 31, 3) := dk_158 0 31 (dk_at dksX1_root_0 11 rfl rfl)
theorem dX1_root_14 : decode cX1_root 14 = .ok (.lload_n 2, 1) := dk_32 (dk_at dksX1_root_0 14 rfl rfl)
theorem dX1_root_15 : decode cX1_root 15 = .ok (.lload 4, 2) := dk_22 4 (dk_at dksX1_root_0 15 rfl rfl)
theorem dX1_root_17 : decode cX1_root 17 = .ok (.ladd, 1) := dk_97 (dk_at dksX1_root_0 17 rfl rfl)
theorem dX1_root_18 : decode cX1_root 18 = .ok (.lload_n 2, 1) := dk_32 (dk_at dksX1_root_0 18 rfl rfl)
theorem dX1_root_19 : decode cX1_root 19 = .ok (.lload 4, 2) := dk_22 4 (dk_at dksX1_root_0 19 rfl rfl)
theorem dX1_root_21 : decode cX1_root 21 = .ok (.ladd, 1) := dk_97 (dk_at dksX1_root_0 21 rfl rfl)
theorem dX1_root_22 : decode cX1_root 22 = .ok (.lmul, 1) := dk_105 (dk_at dksX1_root_0 22 rfl rfl)
theorem dX1_root_23 : decode cX1_root 23 = .ok (.lload_n 0, 1) := dk_30 (dk_at dksX1_root_0 23 rfl rfl)
theorem dX1_root_24 : decode cX1_root 24 = .ok (.lcmp, 1) := dk_148 (dk_at dksX1_root_1 0 rfl rfl)
theorem dX1_root_25 : decode cX1_root 25 = .ok (.ifCond .gt 8, 3) := dk_157 0 8 (dk_at dksX1_root_1 1 rfl rfl)
theorem dX1_root_28 : decode cX1_root 28 = .ok (.lload_n 2, 1) := dk_32 (dk_at dksX1_root_1 4 rfl rfl)
theorem dX1_root_29 : decode cX1_root 29 = .ok (.lload 4, 2) := dk_22 4 (dk_at dksX1_root_1 5 rfl rfl)
theorem dX1_root_31 : decode cX1_root 31 = .ok (.ladd, 1) := dk_97 (dk_at dksX1_root_1 7 rfl rfl)
theorem dX1_root_32 : decode cX1_root 32 = .ok (.lstore_n 2, 1) := dk_65 (dk_at dksX1_root_1 8 rfl rfl)
theorem dX1_root_33 : decode cX1_root 33 = .ok (.lload 4, 2) := dk_22 4 (dk_at dksX1_root_1 9 rfl rfl)
theorem dX1_root_35 : decode cX1_root 35 = .ok (.iconst 1, 1) := dk_4 (dk_at dksX1_root_1 11 rfl rfl)
theorem dX1_root_36 : decode cX1_root 36 = .ok (.lshr, 1) := dk_123 (dk_at dksX1_root_1 12 rfl rfl)
theorem dX1_root_37 : decode cX1_root 37 = .ok (.lstore 4, 2) := dk_55 4 (dk_at dksX1_root_1 13 rfl rfl)
theorem dX1_root_39 : decode cX1_root 39 = .ok (.goto (-32), 3) := dk_167 255 224 (dk_at dksX1_root_1 15 rfl rfl)
theorem dX1_root_42 : decode cX1_root 42 = .ok (.lload_n 2, 1) := dk_32 (dk_at dksX1_root_1 18 rfl rfl)
theorem dX1_root_43 : decode cX1_root 43 = .ok (.l2i, 1) := dk_136 (dk_at dksX1_root_1 19 rfl rfl)
theorem dX1_root_44 : decode cX1_root 44 = .ok (.ireturn, 1) := dk_172 (dk_at dksX1_root_1 20 rfl rfl)
abbrev cX1_micAt : ByteArray := prog_1_method_25_code
def yX1_micAt : MethodName := ⟨RX1, "micAt", "(II)I"⟩
def dkwX1_micAt_3 : List UInt8 := [167, 0, 12, 42, 180, 0, 95, 180, 0, 203, 27, 46, 172]
abbrev dktX1_micAt_3 : List UInt8 := dkwX1_micAt_3 ++ []
def dkwX1_micAt_2 : List UInt8 := [167, 0, 36, 28, 4, 160, 0, 10, 45, 180, 0, 197, 167, 0, 24, 28, 5, 160, 0, 10, 45, 180, 0, 200]
abbrev dktX1_micAt_2 : List UInt8 := dkwX1_micAt_2 ++ dktX1_micAt_3
def dkwX1_micAt_1 : List UInt8 := [180, 0, 107, 180, 0, 111, 27, 185, 0, 188, 2, 0, 192, 0, 192, 78, 28, 154, 0, 10, 45, 180, 0, 194]
abbrev dktX1_micAt_1 : List UInt8 := dkwX1_micAt_1 ++ dktX1_micAt_2
def dkwX1_micAt_0 : List UInt8 := [42, 27, 182, 0, 133, 87, 28, 133, 9, 20, 0, 183, 184, 0, 85, 184, 0, 185, 42, 180, 0, 95]
abbrev dktX1_micAt_0 : List UInt8 := dkwX1_micAt_0 ++ dktX1_micAt_1
theorem dksX1_micAt_0 : cX1_micAt.data.toList.drop 0 = dktX1_micAt_0 := by decide +kernel
theorem dksX1_micAt_1 : cX1_micAt.data.toList.drop 22 = dktX1_micAt_1 := dk_seg dksX1_micAt_0 22 rfl rfl
theorem dksX1_micAt_2 : cX1_micAt.data.toList.drop 46 = dktX1_micAt_2 := dk_seg dksX1_micAt_1 24 rfl rfl
theorem dksX1_micAt_3 : cX1_micAt.data.toList.drop 70 = dktX1_micAt_3 := dk_seg dksX1_micAt_2 24 rfl rfl
theorem dX1_micAt_0 : decode cX1_micAt 0 = .ok (.aload_n 0, 1) := dk_42 (dk_at dksX1_micAt_0 0 rfl rfl)
theorem dX1_micAt_1 : decode cX1_micAt 1 = .ok (.iload_n 1, 1) := dk_27 (dk_at dksX1_micAt_0 1 rfl rfl)
theorem dX1_micAt_2 : decode cX1_micAt 2 = .ok (.invokevirtual 133, 3) := dk_182 0 133 (dk_at dksX1_micAt_0 2 rfl rfl)
theorem dX1_micAt_5 : decode cX1_micAt 5 = .ok (.pop, 1) := dk_87 (dk_at dksX1_micAt_0 5 rfl rfl)
theorem dX1_micAt_6 : decode cX1_micAt 6 = .ok (.iload_n 2, 1) := dk_28 (dk_at dksX1_micAt_0 6 rfl rfl)
theorem dX1_micAt_7 : decode cX1_micAt 7 = .ok (.i2l, 1) := dk_133 (dk_at dksX1_micAt_0 7 rfl rfl)
theorem dX1_micAt_8 : decode cX1_micAt 8 = .ok (.lconst 0, 1) := dk_9 (dk_at dksX1_micAt_0 8 rfl rfl)
theorem dX1_micAt_9 : decode cX1_micAt 9 = .ok (.ldc2_w 183, 3) := dk_20 0 183 (dk_at dksX1_micAt_0 9 rfl rfl)
theorem dX1_micAt_12 : decode cX1_micAt 12 = .ok (.invokestatic 85, 3) := dk_184 0 85 (dk_at dksX1_micAt_0 12 rfl rfl)
theorem dX1_micAt_15 : decode cX1_micAt 15 = .ok (.invokestatic 185, 3) := dk_184 0 185 (dk_at dksX1_micAt_0 15 rfl rfl)
theorem dX1_micAt_18 : decode cX1_micAt 18 = .ok (.aload_n 0, 1) := dk_42 (dk_at dksX1_micAt_0 18 rfl rfl)
theorem dX1_micAt_19 : decode cX1_micAt 19 = .ok (.getfield 95, 3) := dk_180 0 95 (dk_at dksX1_micAt_0 19 rfl rfl)
theorem dX1_micAt_22 : decode cX1_micAt 22 = .ok (.getfield 107, 3) := dk_180 0 107 (dk_at dksX1_micAt_1 0 rfl rfl)
theorem dX1_micAt_25 : decode cX1_micAt 25 = .ok (.getfield 111, 3) := dk_180 0 111 (dk_at dksX1_micAt_1 3 rfl rfl)
theorem dX1_micAt_28 : decode cX1_micAt 28 = .ok (.iload_n 1, 1) := dk_27 (dk_at dksX1_micAt_1 6 rfl rfl)
theorem dX1_micAt_29 : decode cX1_micAt 29 = .ok (.invokeinterface 188 2, 5) := by decide +kernel
theorem dX1_micAt_34 : decode cX1_micAt 34 = .ok (.checkcast 192, 3) := dk_192 0 192 (dk_at dksX1_micAt_1 12 rfl rfl)
theorem dX1_micAt_37 : decode cX1_micAt 37 = .ok (.astore_n 3, 1) := dk_78 (dk_at dksX1_micAt_1 15 rfl rfl)
theorem dX1_micAt_38 : decode cX1_micAt 38 = .ok (.iload_n 2, 1) := dk_28 (dk_at dksX1_micAt_1 16 rfl rfl)
theorem dX1_micAt_39 : decode cX1_micAt 39 = .ok (.ifCond .ne 10, 3) := dk_154 0 10 (dk_at dksX1_micAt_1 17 rfl rfl)
theorem dX1_micAt_42 : decode cX1_micAt 42 = .ok (.aload_n 3, 1) := dk_45 (dk_at dksX1_micAt_1 20 rfl rfl)
theorem dX1_micAt_43 : decode cX1_micAt 43 = .ok (.getfield 194, 3) := dk_180 0 194 (dk_at dksX1_micAt_1 21 rfl rfl)
theorem dX1_micAt_46 : decode cX1_micAt 46 = .ok (.goto 36, 3) := dk_167 0 36 (dk_at dksX1_micAt_2 0 rfl rfl)
theorem dX1_micAt_49 : decode cX1_micAt 49 = .ok (.iload_n 2, 1) := dk_28 (dk_at dksX1_micAt_2 3 rfl rfl)
theorem dX1_micAt_50 : decode cX1_micAt 50 = .ok (.iconst 1, 1) := dk_4 (dk_at dksX1_micAt_2 4 rfl rfl)
theorem dX1_micAt_51 : decode cX1_micAt 51 = .ok (.if_icmp .ne 10, 3) := dk_160 0 10 (dk_at dksX1_micAt_2 5 rfl rfl)
theorem dX1_micAt_54 : decode cX1_micAt 54 = .ok (.aload_n 3, 1) := dk_45 (dk_at dksX1_micAt_2 8 rfl rfl)
theorem dX1_micAt_55 : decode cX1_micAt 55 = .ok (.getfield 197, 3) := dk_180 0 197 (dk_at dksX1_micAt_2 9 rfl rfl)
theorem dX1_micAt_58 : decode cX1_micAt 58 = .ok (.goto 24, 3) := dk_167 0 24 (dk_at dksX1_micAt_2 12 rfl rfl)
theorem dX1_micAt_61 : decode cX1_micAt 61 = .ok (.iload_n 2, 1) := dk_28 (dk_at dksX1_micAt_2 15 rfl rfl)
theorem dX1_micAt_62 : decode cX1_micAt 62 = .ok (.iconst 2, 1) := dk_5 (dk_at dksX1_micAt_2 16 rfl rfl)
theorem dX1_micAt_63 : decode cX1_micAt 63 = .ok (.if_icmp .ne 10, 3) := dk_160 0 10 (dk_at dksX1_micAt_2 17 rfl rfl)
theorem dX1_micAt_66 : decode cX1_micAt 66 = .ok (.aload_n 3, 1) := dk_45 (dk_at dksX1_micAt_2 20 rfl rfl)
theorem dX1_micAt_67 : decode cX1_micAt 67 = .ok (.getfield 200, 3) := dk_180 0 200 (dk_at dksX1_micAt_2 21 rfl rfl)
theorem dX1_micAt_70 : decode cX1_micAt 70 = .ok (.goto 12, 3) := dk_167 0 12 (dk_at dksX1_micAt_3 0 rfl rfl)
theorem dX1_micAt_73 : decode cX1_micAt 73 = .ok (.aload_n 0, 1) := dk_42 (dk_at dksX1_micAt_3 3 rfl rfl)
theorem dX1_micAt_74 : decode cX1_micAt 74 = .ok (.getfield 95, 3) := dk_180 0 95 (dk_at dksX1_micAt_3 4 rfl rfl)
theorem dX1_micAt_77 : decode cX1_micAt 77 = .ok (.getfield 203, 3) := dk_180 0 203 (dk_at dksX1_micAt_3 7 rfl rfl)
theorem dX1_micAt_80 : decode cX1_micAt 80 = .ok (.iload_n 1, 1) := dk_27 (dk_at dksX1_micAt_3 10 rfl rfl)
theorem dX1_micAt_81 : decode cX1_micAt 81 = .ok (.iaload, 1) := dk_46 (dk_at dksX1_micAt_3 11 rfl rfl)
theorem dX1_micAt_82 : decode cX1_micAt 82 = .ok (.ireturn, 1) := dk_172 (dk_at dksX1_micAt_3 12 rfl rfl)
abbrev cX1_withMic : ByteArray := prog_1_method_11_code
def yX1_withMic : MethodName := ⟨RX1, "withMic", "(I)LAcousticCamera$State;"⟩
def dkwX1_withMic_0 : List UInt8 := [27, 42, 182, 0, 103, 180, 0, 107, 180, 0, 111, 185, 0, 117, 1, 0, 184, 0, 122, 42, 180, 0, 95, 176]
abbrev dktX1_withMic_0 : List UInt8 := dkwX1_withMic_0 ++ []
theorem dksX1_withMic_0 : cX1_withMic.data.toList.drop 0 = dktX1_withMic_0 := by decide +kernel
theorem dX1_withMic_0 : decode cX1_withMic 0 = .ok (.iload_n 1, 1) := dk_27 (dk_at dksX1_withMic_0 0 rfl rfl)
theorem dX1_withMic_1 : decode cX1_withMic 1 = .ok (.aload_n 0, 1) := dk_42 (dk_at dksX1_withMic_0 1 rfl rfl)
theorem dX1_withMic_2 : decode cX1_withMic 2 = .ok (.invokevirtual 103, 3) := dk_182 0 103 (dk_at dksX1_withMic_0 2 rfl rfl)
theorem dX1_withMic_5 : decode cX1_withMic 5 = .ok (.getfield 107, 3) := dk_180 0 107 (dk_at dksX1_withMic_0 5 rfl rfl)
theorem dX1_withMic_8 : decode cX1_withMic 8 = .ok (.getfield 111, 3) := dk_180 0 111 (dk_at dksX1_withMic_0 8 rfl rfl)
theorem dX1_withMic_11 : decode cX1_withMic 11 = .ok (.invokeinterface 117 1, 5) := by decide +kernel
theorem dX1_withMic_16 : decode cX1_withMic 16 = .ok (.invokestatic 122, 3) := dk_184 0 122 (dk_at dksX1_withMic_0 16 rfl rfl)
theorem dX1_withMic_19 : decode cX1_withMic 19 = .ok (.aload_n 0, 1) := dk_42 (dk_at dksX1_withMic_0 19 rfl rfl)
theorem dX1_withMic_20 : decode cX1_withMic 20 = .ok (.getfield 95, 3) := dk_180 0 95 (dk_at dksX1_withMic_0 20 rfl rfl)
theorem dX1_withMic_23 : decode cX1_withMic 23 = .ok (.areturn, 1) := dk_176 (dk_at dksX1_withMic_0 23 rfl rfl)
abbrev cX1_there : ByteArray := prog_1_method_10_code
def yX1_there : MethodName := ⟨RX1, "there", "()LAcousticCamera$State;"⟩
def dkwX1_there_0 : List UInt8 := [42, 180, 0, 95, 198, 0, 7, 4, 167, 0, 4, 3, 184, 0, 99, 42, 180, 0, 95, 176]
abbrev dktX1_there_0 : List UInt8 := dkwX1_there_0 ++ []
theorem dksX1_there_0 : cX1_there.data.toList.drop 0 = dktX1_there_0 := by decide +kernel
theorem dX1_there_0 : decode cX1_there 0 = .ok (.aload_n 0, 1) := dk_42 (dk_at dksX1_there_0 0 rfl rfl)
theorem dX1_there_1 : decode cX1_there 1 = .ok (.getfield 95, 3) := dk_180 0 95 (dk_at dksX1_there_0 1 rfl rfl)
theorem dX1_there_4 : decode cX1_there 4 = .ok (.ifnull 7, 3) := dk_198 0 7 (dk_at dksX1_there_0 4 rfl rfl)
theorem dX1_there_7 : decode cX1_there 7 = .ok (.iconst 1, 1) := dk_4 (dk_at dksX1_there_0 7 rfl rfl)
theorem dX1_there_8 : decode cX1_there 8 = .ok (.goto 4, 3) := dk_167 0 4 (dk_at dksX1_there_0 8 rfl rfl)
theorem dX1_there_11 : decode cX1_there 11 = .ok (.iconst 0, 1) := dk_3 (dk_at dksX1_there_0 11 rfl rfl)
theorem dX1_there_12 : decode cX1_there 12 = .ok (.invokestatic 99, 3) := dk_184 0 99 (dk_at dksX1_there_0 12 rfl rfl)
theorem dX1_there_15 : decode cX1_there 15 = .ok (.aload_n 0, 1) := dk_42 (dk_at dksX1_there_0 15 rfl rfl)
theorem dX1_there_16 : decode cX1_there 16 = .ok (.getfield 95, 3) := dk_180 0 95 (dk_at dksX1_there_0 16 rfl rfl)
theorem dX1_there_19 : decode cX1_there 19 = .ok (.areturn, 1) := dk_176 (dk_at dksX1_there_0 19 rfl rfl)
abbrev cX1_checkState : ByteArray := prog_1_method_9_code
def yX1_checkState : MethodName := ⟨RX1, "checkState", "(Z)V"⟩
def dkwX1_checkState_0 : List UInt8 := [26, 154, 0, 11, 187, 0, 92, 89, 183, 0, 94, 191, 177]
abbrev dktX1_checkState_0 : List UInt8 := dkwX1_checkState_0 ++ []
theorem dksX1_checkState_0 : cX1_checkState.data.toList.drop 0 = dktX1_checkState_0 := by decide +kernel
theorem dX1_checkState_0 : decode cX1_checkState 0 = .ok (.iload_n 0, 1) := dk_26 (dk_at dksX1_checkState_0 0 rfl rfl)
theorem dX1_checkState_1 : decode cX1_checkState 1 = .ok (.ifCond .ne 11, 3) := dk_154 0 11 (dk_at dksX1_checkState_0 1 rfl rfl)
theorem dX1_checkState_4 : decode cX1_checkState 4 = .ok (.new 92, 3) := dk_187 0 92 (dk_at dksX1_checkState_0 4 rfl rfl)
theorem dX1_checkState_7 : decode cX1_checkState 7 = .ok (.dup, 1) := dk_89 (dk_at dksX1_checkState_0 7 rfl rfl)
theorem dX1_checkState_8 : decode cX1_checkState 8 = .ok (.invokespecial 94, 3) := dk_183 0 94 (dk_at dksX1_checkState_0 8 rfl rfl)
theorem dX1_checkState_11 : decode cX1_checkState 11 = .ok (.athrow, 1) := dk_191 (dk_at dksX1_checkState_0 11 rfl rfl)
theorem dX1_checkState_12 : decode cX1_checkState 12 = .ok (.return_, 1) := dk_177 (dk_at dksX1_checkState_0 12 rfl rfl)
abbrev cX1_checkArgument : ByteArray := prog_1_method_7_code
def yX1_checkArgument : MethodName := ⟨RX1, "checkArgument", "(Z)V"⟩
def dkwX1_checkArgument_0 : List UInt8 := [26, 154, 0, 11, 187, 0, 82, 89, 183, 0, 84, 191, 177]
abbrev dktX1_checkArgument_0 : List UInt8 := dkwX1_checkArgument_0 ++ []
theorem dksX1_checkArgument_0 : cX1_checkArgument.data.toList.drop 0 = dktX1_checkArgument_0 := by decide +kernel
theorem dX1_checkArgument_0 : decode cX1_checkArgument 0 = .ok (.iload_n 0, 1) := dk_26 (dk_at dksX1_checkArgument_0 0 rfl rfl)
theorem dX1_checkArgument_1 : decode cX1_checkArgument 1 = .ok (.ifCond .ne 11, 3) := dk_154 0 11 (dk_at dksX1_checkArgument_0 1 rfl rfl)
theorem dX1_checkArgument_4 : decode cX1_checkArgument 4 = .ok (.new 82, 3) := dk_187 0 82 (dk_at dksX1_checkArgument_0 4 rfl rfl)
theorem dX1_checkArgument_7 : decode cX1_checkArgument 7 = .ok (.dup, 1) := dk_89 (dk_at dksX1_checkArgument_0 7 rfl rfl)
theorem dX1_checkArgument_8 : decode cX1_checkArgument 8 = .ok (.invokespecial 84, 3) := dk_183 0 84 (dk_at dksX1_checkArgument_0 8 rfl rfl)
theorem dX1_checkArgument_11 : decode cX1_checkArgument 11 = .ok (.athrow, 1) := dk_191 (dk_at dksX1_checkArgument_0 11 rfl rfl)
theorem dX1_checkArgument_12 : decode cX1_checkArgument 12 = .ok (.return_, 1) := dk_177 (dk_at dksX1_checkArgument_0 12 rfl rfl)
abbrev cX1_isMuted : ByteArray := prog_1_method_26_code
def yX1_isMuted : MethodName := ⟨RX1, "isMuted", "(I)Z"⟩
def dkwX1_isMuted_0 : List UInt8 := [42, 27, 182, 0, 133, 27, 182, 0, 207, 154, 0, 7, 4, 167, 0, 4, 3, 172]
abbrev dktX1_isMuted_0 : List UInt8 := dkwX1_isMuted_0 ++ []
theorem dksX1_isMuted_0 : cX1_isMuted.data.toList.drop 0 = dktX1_isMuted_0 := by decide +kernel
theorem dX1_isMuted_0 : decode cX1_isMuted 0 = .ok (.aload_n 0, 1) := dk_42 (dk_at dksX1_isMuted_0 0 rfl rfl)
theorem dX1_isMuted_1 : decode cX1_isMuted 1 = .ok (.iload_n 1, 1) := dk_27 (dk_at dksX1_isMuted_0 1 rfl rfl)
theorem dX1_isMuted_2 : decode cX1_isMuted 2 = .ok (.invokevirtual 133, 3) := dk_182 0 133 (dk_at dksX1_isMuted_0 2 rfl rfl)
theorem dX1_isMuted_5 : decode cX1_isMuted 5 = .ok (.iload_n 1, 1) := dk_27 (dk_at dksX1_isMuted_0 5 rfl rfl)
theorem dX1_isMuted_6 : decode cX1_isMuted 6 = .ok (.invokevirtual 207, 3) := dk_182 0 207 (dk_at dksX1_isMuted_0 6 rfl rfl)
theorem dX1_isMuted_9 : decode cX1_isMuted 9 = .ok (.ifCond .ne 7, 3) := dk_154 0 7 (dk_at dksX1_isMuted_0 9 rfl rfl)
theorem dX1_isMuted_12 : decode cX1_isMuted 12 = .ok (.iconst 1, 1) := dk_4 (dk_at dksX1_isMuted_0 12 rfl rfl)
theorem dX1_isMuted_13 : decode cX1_isMuted 13 = .ok (.goto 4, 3) := dk_167 0 4 (dk_at dksX1_isMuted_0 13 rfl rfl)
theorem dX1_isMuted_16 : decode cX1_isMuted 16 = .ok (.iconst 0, 1) := dk_3 (dk_at dksX1_isMuted_0 16 rfl rfl)
theorem dX1_isMuted_17 : decode cX1_isMuted 17 = .ok (.ireturn, 1) := dk_172 (dk_at dksX1_isMuted_0 17 rfl rfl)
abbrev cX1_cellAt : ByteArray := prog_1_method_29_code
def yX1_cellAt : MethodName := ⟨RX1, "cellAt", "(II)I"⟩
def dkwX1_cellAt_2 : List UInt8 := [27, 182, 0, 220, 172]
abbrev dktX1_cellAt_2 : List UInt8 := dkwX1_cellAt_2 ++ []
def dkwX1_cellAt_1 : List UInt8 := [154, 0, 17, 42, 180, 0, 95, 180, 0, 107, 27, 182, 0, 216, 167, 0, 14, 42, 180, 0, 95, 180, 0, 107]
abbrev dktX1_cellAt_1 : List UInt8 := dkwX1_cellAt_1 ++ dktX1_cellAt_2
def dkwX1_cellAt_0 : List UInt8 := [42, 27, 182, 0, 137, 87, 28, 153, 0, 8, 28, 4, 160, 0, 7, 4, 167, 0, 4, 3, 184, 0, 185, 28]
abbrev dktX1_cellAt_0 : List UInt8 := dkwX1_cellAt_0 ++ dktX1_cellAt_1
theorem dksX1_cellAt_0 : cX1_cellAt.data.toList.drop 0 = dktX1_cellAt_0 := by decide +kernel
theorem dksX1_cellAt_1 : cX1_cellAt.data.toList.drop 24 = dktX1_cellAt_1 := dk_seg dksX1_cellAt_0 24 rfl rfl
theorem dksX1_cellAt_2 : cX1_cellAt.data.toList.drop 48 = dktX1_cellAt_2 := dk_seg dksX1_cellAt_1 24 rfl rfl
theorem dX1_cellAt_0 : decode cX1_cellAt 0 = .ok (.aload_n 0, 1) := dk_42 (dk_at dksX1_cellAt_0 0 rfl rfl)
theorem dX1_cellAt_1 : decode cX1_cellAt 1 = .ok (.iload_n 1, 1) := dk_27 (dk_at dksX1_cellAt_0 1 rfl rfl)
theorem dX1_cellAt_2 : decode cX1_cellAt 2 = .ok (.invokevirtual 137, 3) := dk_182 0 137 (dk_at dksX1_cellAt_0 2 rfl rfl)
theorem dX1_cellAt_5 : decode cX1_cellAt 5 = .ok (.pop, 1) := dk_87 (dk_at dksX1_cellAt_0 5 rfl rfl)
theorem dX1_cellAt_6 : decode cX1_cellAt 6 = .ok (.iload_n 2, 1) := dk_28 (dk_at dksX1_cellAt_0 6 rfl rfl)
theorem dX1_cellAt_7 : decode cX1_cellAt 7 = .ok (.ifCond .eq 8, 3) := dk_153 0 8 (dk_at dksX1_cellAt_0 7 rfl rfl)
theorem dX1_cellAt_10 : decode cX1_cellAt 10 = .ok (.iload_n 2, 1) := dk_28 (dk_at dksX1_cellAt_0 10 rfl rfl)
theorem dX1_cellAt_11 : decode cX1_cellAt 11 = .ok (.iconst 1, 1) := dk_4 (dk_at dksX1_cellAt_0 11 rfl rfl)
theorem dX1_cellAt_12 : decode cX1_cellAt 12 = .ok (.if_icmp .ne 7, 3) := dk_160 0 7 (dk_at dksX1_cellAt_0 12 rfl rfl)
theorem dX1_cellAt_15 : decode cX1_cellAt 15 = .ok (.iconst 1, 1) := dk_4 (dk_at dksX1_cellAt_0 15 rfl rfl)
theorem dX1_cellAt_16 : decode cX1_cellAt 16 = .ok (.goto 4, 3) := dk_167 0 4 (dk_at dksX1_cellAt_0 16 rfl rfl)
theorem dX1_cellAt_19 : decode cX1_cellAt 19 = .ok (.iconst 0, 1) := dk_3 (dk_at dksX1_cellAt_0 19 rfl rfl)
theorem dX1_cellAt_20 : decode cX1_cellAt 20 = .ok (.invokestatic 185, 3) := dk_184 0 185 (dk_at dksX1_cellAt_0 20 rfl rfl)
theorem dX1_cellAt_23 : decode cX1_cellAt 23 = .ok (.iload_n 2, 1) := dk_28 (dk_at dksX1_cellAt_0 23 rfl rfl)
theorem dX1_cellAt_24 : decode cX1_cellAt 24 = .ok (.ifCond .ne 17, 3) := dk_154 0 17 (dk_at dksX1_cellAt_1 0 rfl rfl)
theorem dX1_cellAt_27 : decode cX1_cellAt 27 = .ok (.aload_n 0, 1) := dk_42 (dk_at dksX1_cellAt_1 3 rfl rfl)
theorem dX1_cellAt_28 : decode cX1_cellAt 28 = .ok (.getfield 95, 3) := dk_180 0 95 (dk_at dksX1_cellAt_1 4 rfl rfl)
theorem dX1_cellAt_31 : decode cX1_cellAt 31 = .ok (.getfield 107, 3) := dk_180 0 107 (dk_at dksX1_cellAt_1 7 rfl rfl)
theorem dX1_cellAt_34 : decode cX1_cellAt 34 = .ok (.iload_n 1, 1) := dk_27 (dk_at dksX1_cellAt_1 10 rfl rfl)
theorem dX1_cellAt_35 : decode cX1_cellAt 35 = .ok (.invokevirtual 216, 3) := dk_182 0 216 (dk_at dksX1_cellAt_1 11 rfl rfl)
theorem dX1_cellAt_38 : decode cX1_cellAt 38 = .ok (.goto 14, 3) := dk_167 0 14 (dk_at dksX1_cellAt_1 14 rfl rfl)
theorem dX1_cellAt_41 : decode cX1_cellAt 41 = .ok (.aload_n 0, 1) := dk_42 (dk_at dksX1_cellAt_1 17 rfl rfl)
theorem dX1_cellAt_42 : decode cX1_cellAt 42 = .ok (.getfield 95, 3) := dk_180 0 95 (dk_at dksX1_cellAt_1 18 rfl rfl)
theorem dX1_cellAt_45 : decode cX1_cellAt 45 = .ok (.getfield 107, 3) := dk_180 0 107 (dk_at dksX1_cellAt_1 21 rfl rfl)
theorem dX1_cellAt_48 : decode cX1_cellAt 48 = .ok (.iload_n 1, 1) := dk_27 (dk_at dksX1_cellAt_2 0 rfl rfl)
theorem dX1_cellAt_49 : decode cX1_cellAt 49 = .ok (.invokevirtual 220, 3) := dk_182 0 220 (dk_at dksX1_cellAt_2 1 rfl rfl)
theorem dX1_cellAt_52 : decode cX1_cellAt 52 = .ok (.ireturn, 1) := dk_172 (dk_at dksX1_cellAt_2 4 rfl rfl)
abbrev cX1_withCell : ByteArray := prog_1_method_12_code
def yX1_withCell : MethodName := ⟨RX1, "withCell", "(I)LAcousticCamera$State;"⟩
def dkwX1_withCell_0 : List UInt8 := [27, 42, 182, 0, 103, 180, 0, 107, 182, 0, 126, 184, 0, 122, 42, 180, 0, 95, 176]
abbrev dktX1_withCell_0 : List UInt8 := dkwX1_withCell_0 ++ []
theorem dksX1_withCell_0 : cX1_withCell.data.toList.drop 0 = dktX1_withCell_0 := by decide +kernel
theorem dX1_withCell_0 : decode cX1_withCell 0 = .ok (.iload_n 1, 1) := dk_27 (dk_at dksX1_withCell_0 0 rfl rfl)
theorem dX1_withCell_1 : decode cX1_withCell 1 = .ok (.aload_n 0, 1) := dk_42 (dk_at dksX1_withCell_0 1 rfl rfl)
theorem dX1_withCell_2 : decode cX1_withCell 2 = .ok (.invokevirtual 103, 3) := dk_182 0 103 (dk_at dksX1_withCell_0 2 rfl rfl)
theorem dX1_withCell_5 : decode cX1_withCell 5 = .ok (.getfield 107, 3) := dk_180 0 107 (dk_at dksX1_withCell_0 5 rfl rfl)
theorem dX1_withCell_8 : decode cX1_withCell 8 = .ok (.invokevirtual 126, 3) := dk_182 0 126 (dk_at dksX1_withCell_0 8 rfl rfl)
theorem dX1_withCell_11 : decode cX1_withCell 11 = .ok (.invokestatic 122, 3) := dk_184 0 122 (dk_at dksX1_withCell_0 11 rfl rfl)
theorem dX1_withCell_14 : decode cX1_withCell 14 = .ok (.aload_n 0, 1) := dk_42 (dk_at dksX1_withCell_0 14 rfl rfl)
theorem dX1_withCell_15 : decode cX1_withCell 15 = .ok (.getfield 95, 3) := dk_180 0 95 (dk_at dksX1_withCell_0 15 rfl rfl)
theorem dX1_withCell_18 : decode cX1_withCell 18 = .ok (.areturn, 1) := dk_176 (dk_at dksX1_withCell_0 18 rfl rfl)
abbrev cX1_sourceAt : ByteArray := prog_1_method_31_code
def yX1_sourceAt : MethodName := ⟨RX1, "sourceAt", "(III)I"⟩
def dkwX1_sourceAt_2 : List UInt8 := [167, 0, 16, 42, 180, 0, 95, 180, 0, 129, 27, 50, 29, 182, 0, 234, 172]
abbrev dktX1_sourceAt_2 : List UInt8 := dkwX1_sourceAt_2 ++ []
def dkwX1_sourceAt_1 : List UInt8 := [167, 0, 4, 3, 184, 0, 185, 28, 154, 0, 19, 42, 180, 0, 95, 180, 0, 129, 27, 50, 29, 182, 0, 229]
abbrev dktX1_sourceAt_1 : List UInt8 := dkwX1_sourceAt_1 ++ dktX1_sourceAt_2
def dkwX1_sourceAt_0 : List UInt8 := [42, 27, 182, 0, 223, 87, 28, 153, 0, 8, 28, 4, 160, 0, 15, 42, 29, 182, 0, 226, 153, 0, 7, 4]
abbrev dktX1_sourceAt_0 : List UInt8 := dkwX1_sourceAt_0 ++ dktX1_sourceAt_1
theorem dksX1_sourceAt_0 : cX1_sourceAt.data.toList.drop 0 = dktX1_sourceAt_0 := by decide +kernel
theorem dksX1_sourceAt_1 : cX1_sourceAt.data.toList.drop 24 = dktX1_sourceAt_1 := dk_seg dksX1_sourceAt_0 24 rfl rfl
theorem dksX1_sourceAt_2 : cX1_sourceAt.data.toList.drop 48 = dktX1_sourceAt_2 := dk_seg dksX1_sourceAt_1 24 rfl rfl
theorem dX1_sourceAt_0 : decode cX1_sourceAt 0 = .ok (.aload_n 0, 1) := dk_42 (dk_at dksX1_sourceAt_0 0 rfl rfl)
theorem dX1_sourceAt_1 : decode cX1_sourceAt 1 = .ok (.iload_n 1, 1) := dk_27 (dk_at dksX1_sourceAt_0 1 rfl rfl)
theorem dX1_sourceAt_2 : decode cX1_sourceAt 2 = .ok (.invokevirtual 223, 3) := dk_182 0 223 (dk_at dksX1_sourceAt_0 2 rfl rfl)
theorem dX1_sourceAt_5 : decode cX1_sourceAt 5 = .ok (.pop, 1) := dk_87 (dk_at dksX1_sourceAt_0 5 rfl rfl)
theorem dX1_sourceAt_6 : decode cX1_sourceAt 6 = .ok (.iload_n 2, 1) := dk_28 (dk_at dksX1_sourceAt_0 6 rfl rfl)
theorem dX1_sourceAt_7 : decode cX1_sourceAt 7 = .ok (.ifCond .eq 8, 3) := dk_153 0 8 (dk_at dksX1_sourceAt_0 7 rfl rfl)
theorem dX1_sourceAt_10 : decode cX1_sourceAt 10 = .ok (.iload_n 2, 1) := dk_28 (dk_at dksX1_sourceAt_0 10 rfl rfl)
theorem dX1_sourceAt_11 : decode cX1_sourceAt 11 = .ok (.iconst 1, 1) := dk_4 (dk_at dksX1_sourceAt_0 11 rfl rfl)
theorem dX1_sourceAt_12 : decode cX1_sourceAt 12 = .ok (.if_icmp .ne 15, 3) := dk_160 0 15 (dk_at dksX1_sourceAt_0 12 rfl rfl)
theorem dX1_sourceAt_15 : decode cX1_sourceAt 15 = .ok (.aload_n 0, 1) := dk_42 (dk_at dksX1_sourceAt_0 15 rfl rfl)
theorem dX1_sourceAt_16 : decode cX1_sourceAt 16 = .ok (.iload_n 3, 1) := dk_29 (dk_at dksX1_sourceAt_0 16 rfl rfl)
theorem dX1_sourceAt_17 : decode cX1_sourceAt 17 = .ok (.invokevirtual 226, 3) := dk_182 0 226 (dk_at dksX1_sourceAt_0 17 rfl rfl)
theorem dX1_sourceAt_20 : decode cX1_sourceAt 20 = .ok (.ifCond .eq 7, 3) := dk_153 0 7 (dk_at dksX1_sourceAt_0 20 rfl rfl)
theorem dX1_sourceAt_23 : decode cX1_sourceAt 23 = .ok (.iconst 1, 1) := dk_4 (dk_at dksX1_sourceAt_0 23 rfl rfl)
theorem dX1_sourceAt_24 : decode cX1_sourceAt 24 = .ok (.goto 4, 3) := dk_167 0 4 (dk_at dksX1_sourceAt_1 0 rfl rfl)
theorem dX1_sourceAt_27 : decode cX1_sourceAt 27 = .ok (.iconst 0, 1) := dk_3 (dk_at dksX1_sourceAt_1 3 rfl rfl)
theorem dX1_sourceAt_28 : decode cX1_sourceAt 28 = .ok (.invokestatic 185, 3) := dk_184 0 185 (dk_at dksX1_sourceAt_1 4 rfl rfl)
theorem dX1_sourceAt_31 : decode cX1_sourceAt 31 = .ok (.iload_n 2, 1) := dk_28 (dk_at dksX1_sourceAt_1 7 rfl rfl)
theorem dX1_sourceAt_32 : decode cX1_sourceAt 32 = .ok (.ifCond .ne 19, 3) := dk_154 0 19 (dk_at dksX1_sourceAt_1 8 rfl rfl)
theorem dX1_sourceAt_35 : decode cX1_sourceAt 35 = .ok (.aload_n 0, 1) := dk_42 (dk_at dksX1_sourceAt_1 11 rfl rfl)
theorem dX1_sourceAt_36 : decode cX1_sourceAt 36 = .ok (.getfield 95, 3) := dk_180 0 95 (dk_at dksX1_sourceAt_1 12 rfl rfl)
theorem dX1_sourceAt_39 : decode cX1_sourceAt 39 = .ok (.getfield 129, 3) := dk_180 0 129 (dk_at dksX1_sourceAt_1 15 rfl rfl)
theorem dX1_sourceAt_42 : decode cX1_sourceAt 42 = .ok (.iload_n 1, 1) := dk_27 (dk_at dksX1_sourceAt_1 18 rfl rfl)
theorem dX1_sourceAt_43 : decode cX1_sourceAt 43 = .ok (.aaload, 1) := dk_50 (dk_at dksX1_sourceAt_1 19 rfl rfl)
theorem dX1_sourceAt_44 : decode cX1_sourceAt 44 = .ok (.iload_n 3, 1) := dk_29 (dk_at dksX1_sourceAt_1 20 rfl rfl)
theorem dX1_sourceAt_45 : decode cX1_sourceAt 45 = .ok (.invokevirtual 229, 3) := dk_182 0 229 (dk_at dksX1_sourceAt_1 21 rfl rfl)
theorem dX1_sourceAt_48 : decode cX1_sourceAt 48 = .ok (.goto 16, 3) := dk_167 0 16 (dk_at dksX1_sourceAt_2 0 rfl rfl)
theorem dX1_sourceAt_51 : decode cX1_sourceAt 51 = .ok (.aload_n 0, 1) := dk_42 (dk_at dksX1_sourceAt_2 3 rfl rfl)
theorem dX1_sourceAt_52 : decode cX1_sourceAt 52 = .ok (.getfield 95, 3) := dk_180 0 95 (dk_at dksX1_sourceAt_2 4 rfl rfl)
theorem dX1_sourceAt_55 : decode cX1_sourceAt 55 = .ok (.getfield 129, 3) := dk_180 0 129 (dk_at dksX1_sourceAt_2 7 rfl rfl)
theorem dX1_sourceAt_58 : decode cX1_sourceAt 58 = .ok (.iload_n 1, 1) := dk_27 (dk_at dksX1_sourceAt_2 10 rfl rfl)
theorem dX1_sourceAt_59 : decode cX1_sourceAt 59 = .ok (.aaload, 1) := dk_50 (dk_at dksX1_sourceAt_2 11 rfl rfl)
theorem dX1_sourceAt_60 : decode cX1_sourceAt 60 = .ok (.iload_n 3, 1) := dk_29 (dk_at dksX1_sourceAt_2 12 rfl rfl)
theorem dX1_sourceAt_61 : decode cX1_sourceAt 61 = .ok (.invokevirtual 234, 3) := dk_182 0 234 (dk_at dksX1_sourceAt_2 13 rfl rfl)
theorem dX1_sourceAt_64 : decode cX1_sourceAt 64 = .ok (.ireturn, 1) := dk_172 (dk_at dksX1_sourceAt_2 16 rfl rfl)
abbrev cX1_withSource : ByteArray := prog_1_method_13_code
def yX1_withSource : MethodName := ⟨RX1, "withSource", "(I)LAcousticCamera$State;"⟩
def dkwX1_withSource_0 : List UInt8 := [27, 42, 182, 0, 103, 180, 0, 129, 190, 184, 0, 122, 42, 180, 0, 95, 176]
abbrev dktX1_withSource_0 : List UInt8 := dkwX1_withSource_0 ++ []
theorem dksX1_withSource_0 : cX1_withSource.data.toList.drop 0 = dktX1_withSource_0 := by decide +kernel
theorem dX1_withSource_0 : decode cX1_withSource 0 = .ok (.iload_n 1, 1) := dk_27 (dk_at dksX1_withSource_0 0 rfl rfl)
theorem dX1_withSource_1 : decode cX1_withSource 1 = .ok (.aload_n 0, 1) := dk_42 (dk_at dksX1_withSource_0 1 rfl rfl)
theorem dX1_withSource_2 : decode cX1_withSource 2 = .ok (.invokevirtual 103, 3) := dk_182 0 103 (dk_at dksX1_withSource_0 2 rfl rfl)
theorem dX1_withSource_5 : decode cX1_withSource 5 = .ok (.getfield 129, 3) := dk_180 0 129 (dk_at dksX1_withSource_0 5 rfl rfl)
theorem dX1_withSource_8 : decode cX1_withSource 8 = .ok (.arraylength, 1) := dk_190 (dk_at dksX1_withSource_0 8 rfl rfl)
theorem dX1_withSource_9 : decode cX1_withSource 9 = .ok (.invokestatic 122, 3) := dk_184 0 122 (dk_at dksX1_withSource_0 9 rfl rfl)
theorem dX1_withSource_12 : decode cX1_withSource 12 = .ok (.aload_n 0, 1) := dk_42 (dk_at dksX1_withSource_0 12 rfl rfl)
theorem dX1_withSource_13 : decode cX1_withSource 13 = .ok (.getfield 95, 3) := dk_180 0 95 (dk_at dksX1_withSource_0 13 rfl rfl)
theorem dX1_withSource_16 : decode cX1_withSource 16 = .ok (.areturn, 1) := dk_176 (dk_at dksX1_withSource_0 16 rfl rfl)
abbrev cX1_isSample : ByteArray := prog_1_method_16_code
def yX1_isSample : MethodName := ⟨RX1, "isSample", "(I)Z"⟩
def dkwX1_isSample_0 : List UInt8 := [27, 133, 9, 42, 180, 0, 95, 180, 0, 107, 180, 0, 140, 4, 100, 133, 184, 0, 85, 172]
abbrev dktX1_isSample_0 : List UInt8 := dkwX1_isSample_0 ++ []
theorem dksX1_isSample_0 : cX1_isSample.data.toList.drop 0 = dktX1_isSample_0 := by decide +kernel
theorem dX1_isSample_0 : decode cX1_isSample 0 = .ok (.iload_n 1, 1) := dk_27 (dk_at dksX1_isSample_0 0 rfl rfl)
theorem dX1_isSample_1 : decode cX1_isSample 1 = .ok (.i2l, 1) := dk_133 (dk_at dksX1_isSample_0 1 rfl rfl)
theorem dX1_isSample_2 : decode cX1_isSample 2 = .ok (.lconst 0, 1) := dk_9 (dk_at dksX1_isSample_0 2 rfl rfl)
theorem dX1_isSample_3 : decode cX1_isSample 3 = .ok (.aload_n 0, 1) := dk_42 (dk_at dksX1_isSample_0 3 rfl rfl)
theorem dX1_isSample_4 : decode cX1_isSample 4 = .ok (.getfield 95, 3) := dk_180 0 95 (dk_at dksX1_isSample_0 4 rfl rfl)
theorem dX1_isSample_7 : decode cX1_isSample 7 = .ok (.getfield 107, 3) := dk_180 0 107 (dk_at dksX1_isSample_0 7 rfl rfl)
theorem dX1_isSample_10 : decode cX1_isSample 10 = .ok (.getfield 140, 3) := dk_180 0 140 (dk_at dksX1_isSample_0 10 rfl rfl)
theorem dX1_isSample_13 : decode cX1_isSample 13 = .ok (.iconst 1, 1) := dk_4 (dk_at dksX1_isSample_0 13 rfl rfl)
theorem dX1_isSample_14 : decode cX1_isSample 14 = .ok (.isub, 1) := dk_100 (dk_at dksX1_isSample_0 14 rfl rfl)
theorem dX1_isSample_15 : decode cX1_isSample 15 = .ok (.i2l, 1) := dk_133 (dk_at dksX1_isSample_0 15 rfl rfl)
theorem dX1_isSample_16 : decode cX1_isSample 16 = .ok (.invokestatic 85, 3) := dk_184 0 85 (dk_at dksX1_isSample_0 16 rfl rfl)
theorem dX1_isSample_19 : decode cX1_isSample 19 = .ok (.ireturn, 1) := dk_172 (dk_at dksX1_isSample_0 19 rfl rfl)
abbrev cX1_isOn : ByteArray := prog_1_method_32_code
def yX1_isOn : MethodName := ⟨RX1, "isOn", "(I)Z"⟩
def dkwX1_isOn_0 : List UInt8 := [42, 27, 182, 0, 223, 180, 0, 237, 27, 182, 0, 241, 172]
abbrev dktX1_isOn_0 : List UInt8 := dkwX1_isOn_0 ++ []
theorem dksX1_isOn_0 : cX1_isOn.data.toList.drop 0 = dktX1_isOn_0 := by decide +kernel
theorem dX1_isOn_0 : decode cX1_isOn 0 = .ok (.aload_n 0, 1) := dk_42 (dk_at dksX1_isOn_0 0 rfl rfl)
theorem dX1_isOn_1 : decode cX1_isOn 1 = .ok (.iload_n 1, 1) := dk_27 (dk_at dksX1_isOn_0 1 rfl rfl)
theorem dX1_isOn_2 : decode cX1_isOn 2 = .ok (.invokevirtual 223, 3) := dk_182 0 223 (dk_at dksX1_isOn_0 2 rfl rfl)
theorem dX1_isOn_5 : decode cX1_isOn 5 = .ok (.getfield 237, 3) := dk_180 0 237 (dk_at dksX1_isOn_0 5 rfl rfl)
theorem dX1_isOn_8 : decode cX1_isOn 8 = .ok (.iload_n 1, 1) := dk_27 (dk_at dksX1_isOn_0 8 rfl rfl)
theorem dX1_isOn_9 : decode cX1_isOn 9 = .ok (.invokevirtual 241, 3) := dk_182 0 241 (dk_at dksX1_isOn_0 9 rfl rfl)
theorem dX1_isOn_12 : decode cX1_isOn 12 = .ok (.ireturn, 1) := dk_172 (dk_at dksX1_isOn_0 12 rfl rfl)
abbrev cX1_waveAt : ByteArray := prog_1_method_33_code
def yX1_waveAt : MethodName := ⟨RX1, "waveAt", "(II)I"⟩
def dkwX1_waveAt_1 : List UInt8 := [182, 0, 245, 172]
abbrev dktX1_waveAt_1 : List UInt8 := dkwX1_waveAt_1 ++ []
def dkwX1_waveAt_0 : List UInt8 := [42, 27, 182, 0, 223, 87, 42, 28, 182, 0, 226, 184, 0, 185, 42, 180, 0, 95, 180, 0, 129, 27, 50, 28]
abbrev dktX1_waveAt_0 : List UInt8 := dkwX1_waveAt_0 ++ dktX1_waveAt_1
theorem dksX1_waveAt_0 : cX1_waveAt.data.toList.drop 0 = dktX1_waveAt_0 := by decide +kernel
theorem dksX1_waveAt_1 : cX1_waveAt.data.toList.drop 24 = dktX1_waveAt_1 := dk_seg dksX1_waveAt_0 24 rfl rfl
theorem dX1_waveAt_0 : decode cX1_waveAt 0 = .ok (.aload_n 0, 1) := dk_42 (dk_at dksX1_waveAt_0 0 rfl rfl)
theorem dX1_waveAt_1 : decode cX1_waveAt 1 = .ok (.iload_n 1, 1) := dk_27 (dk_at dksX1_waveAt_0 1 rfl rfl)
theorem dX1_waveAt_2 : decode cX1_waveAt 2 = .ok (.invokevirtual 223, 3) := dk_182 0 223 (dk_at dksX1_waveAt_0 2 rfl rfl)
theorem dX1_waveAt_5 : decode cX1_waveAt 5 = .ok (.pop, 1) := dk_87 (dk_at dksX1_waveAt_0 5 rfl rfl)
theorem dX1_waveAt_6 : decode cX1_waveAt 6 = .ok (.aload_n 0, 1) := dk_42 (dk_at dksX1_waveAt_0 6 rfl rfl)
theorem dX1_waveAt_7 : decode cX1_waveAt 7 = .ok (.iload_n 2, 1) := dk_28 (dk_at dksX1_waveAt_0 7 rfl rfl)
theorem dX1_waveAt_8 : decode cX1_waveAt 8 = .ok (.invokevirtual 226, 3) := dk_182 0 226 (dk_at dksX1_waveAt_0 8 rfl rfl)
theorem dX1_waveAt_11 : decode cX1_waveAt 11 = .ok (.invokestatic 185, 3) := dk_184 0 185 (dk_at dksX1_waveAt_0 11 rfl rfl)
theorem dX1_waveAt_14 : decode cX1_waveAt 14 = .ok (.aload_n 0, 1) := dk_42 (dk_at dksX1_waveAt_0 14 rfl rfl)
theorem dX1_waveAt_15 : decode cX1_waveAt 15 = .ok (.getfield 95, 3) := dk_180 0 95 (dk_at dksX1_waveAt_0 15 rfl rfl)
theorem dX1_waveAt_18 : decode cX1_waveAt 18 = .ok (.getfield 129, 3) := dk_180 0 129 (dk_at dksX1_waveAt_0 18 rfl rfl)
theorem dX1_waveAt_21 : decode cX1_waveAt 21 = .ok (.iload_n 1, 1) := dk_27 (dk_at dksX1_waveAt_0 21 rfl rfl)
theorem dX1_waveAt_22 : decode cX1_waveAt 22 = .ok (.aaload, 1) := dk_50 (dk_at dksX1_waveAt_0 22 rfl rfl)
theorem dX1_waveAt_23 : decode cX1_waveAt 23 = .ok (.iload_n 2, 1) := dk_28 (dk_at dksX1_waveAt_0 23 rfl rfl)
theorem dX1_waveAt_24 : decode cX1_waveAt 24 = .ok (.invokevirtual 245, 3) := dk_182 0 245 (dk_at dksX1_waveAt_1 0 rfl rfl)
theorem dX1_waveAt_27 : decode cX1_waveAt 27 = .ok (.ireturn, 1) := dk_172 (dk_at dksX1_waveAt_1 3 rfl rfl)
abbrev cX1_delay : ByteArray := prog_1_method_35_code
def yX1_delay : MethodName := ⟨RX1, "delay", "(II)I"⟩
def dkwX1_delay_0 : List UInt8 := [42, 27, 182, 0, 133, 87, 42, 28, 182, 0, 137, 180, 0, 107, 180, 0, 248, 27, 50, 28, 46, 172]
abbrev dktX1_delay_0 : List UInt8 := dkwX1_delay_0 ++ []
theorem dksX1_delay_0 : cX1_delay.data.toList.drop 0 = dktX1_delay_0 := by decide +kernel
theorem dX1_delay_0 : decode cX1_delay 0 = .ok (.aload_n 0, 1) := dk_42 (dk_at dksX1_delay_0 0 rfl rfl)
theorem dX1_delay_1 : decode cX1_delay 1 = .ok (.iload_n 1, 1) := dk_27 (dk_at dksX1_delay_0 1 rfl rfl)
theorem dX1_delay_2 : decode cX1_delay 2 = .ok (.invokevirtual 133, 3) := dk_182 0 133 (dk_at dksX1_delay_0 2 rfl rfl)
theorem dX1_delay_5 : decode cX1_delay 5 = .ok (.pop, 1) := dk_87 (dk_at dksX1_delay_0 5 rfl rfl)
theorem dX1_delay_6 : decode cX1_delay 6 = .ok (.aload_n 0, 1) := dk_42 (dk_at dksX1_delay_0 6 rfl rfl)
theorem dX1_delay_7 : decode cX1_delay 7 = .ok (.iload_n 2, 1) := dk_28 (dk_at dksX1_delay_0 7 rfl rfl)
theorem dX1_delay_8 : decode cX1_delay 8 = .ok (.invokevirtual 137, 3) := dk_182 0 137 (dk_at dksX1_delay_0 8 rfl rfl)
theorem dX1_delay_11 : decode cX1_delay 11 = .ok (.getfield 107, 3) := dk_180 0 107 (dk_at dksX1_delay_0 11 rfl rfl)
theorem dX1_delay_14 : decode cX1_delay 14 = .ok (.getfield 248, 3) := dk_180 0 248 (dk_at dksX1_delay_0 14 rfl rfl)
theorem dX1_delay_17 : decode cX1_delay 17 = .ok (.iload_n 1, 1) := dk_27 (dk_at dksX1_delay_0 17 rfl rfl)
theorem dX1_delay_18 : decode cX1_delay 18 = .ok (.aaload, 1) := dk_50 (dk_at dksX1_delay_0 18 rfl rfl)
theorem dX1_delay_19 : decode cX1_delay 19 = .ok (.iload_n 2, 1) := dk_28 (dk_at dksX1_delay_0 19 rfl rfl)
theorem dX1_delay_20 : decode cX1_delay 20 = .ok (.iaload, 1) := dk_46 (dk_at dksX1_delay_0 20 rfl rfl)
theorem dX1_delay_21 : decode cX1_delay 21 = .ok (.ireturn, 1) := dk_172 (dk_at dksX1_delay_0 21 rfl rfl)
abbrev cX1_delayTo : ByteArray := prog_1_method_36_code
def yX1_delayTo : MethodName := ⟨RX1, "delayTo", "(III)I"⟩
def dkwX1_delayTo_1 : List UInt8 := [182, 1, 0, 172]
abbrev dktX1_delayTo_1 : List UInt8 := dkwX1_delayTo_1 ++ []
def dkwX1_delayTo_0 : List UInt8 := [42, 27, 182, 0, 133, 87, 28, 29, 184, 0, 252, 184, 0, 185, 42, 180, 0, 95, 180, 0, 107, 27, 28, 29]
abbrev dktX1_delayTo_0 : List UInt8 := dkwX1_delayTo_0 ++ dktX1_delayTo_1
theorem dksX1_delayTo_0 : cX1_delayTo.data.toList.drop 0 = dktX1_delayTo_0 := by decide +kernel
theorem dksX1_delayTo_1 : cX1_delayTo.data.toList.drop 24 = dktX1_delayTo_1 := dk_seg dksX1_delayTo_0 24 rfl rfl
theorem dX1_delayTo_0 : decode cX1_delayTo 0 = .ok (.aload_n 0, 1) := dk_42 (dk_at dksX1_delayTo_0 0 rfl rfl)
theorem dX1_delayTo_1 : decode cX1_delayTo 1 = .ok (.iload_n 1, 1) := dk_27 (dk_at dksX1_delayTo_0 1 rfl rfl)
theorem dX1_delayTo_2 : decode cX1_delayTo 2 = .ok (.invokevirtual 133, 3) := dk_182 0 133 (dk_at dksX1_delayTo_0 2 rfl rfl)
theorem dX1_delayTo_5 : decode cX1_delayTo 5 = .ok (.pop, 1) := dk_87 (dk_at dksX1_delayTo_0 5 rfl rfl)
theorem dX1_delayTo_6 : decode cX1_delayTo 6 = .ok (.iload_n 2, 1) := dk_28 (dk_at dksX1_delayTo_0 6 rfl rfl)
theorem dX1_delayTo_7 : decode cX1_delayTo 7 = .ok (.iload_n 3, 1) := dk_29 (dk_at dksX1_delayTo_0 7 rfl rfl)
theorem dX1_delayTo_8 : decode cX1_delayTo 8 = .ok (.invokestatic 252, 3) := dk_184 0 252 (dk_at dksX1_delayTo_0 8 rfl rfl)
theorem dX1_delayTo_11 : decode cX1_delayTo 11 = .ok (.invokestatic 185, 3) := dk_184 0 185 (dk_at dksX1_delayTo_0 11 rfl rfl)
theorem dX1_delayTo_14 : decode cX1_delayTo 14 = .ok (.aload_n 0, 1) := dk_42 (dk_at dksX1_delayTo_0 14 rfl rfl)
theorem dX1_delayTo_15 : decode cX1_delayTo 15 = .ok (.getfield 95, 3) := dk_180 0 95 (dk_at dksX1_delayTo_0 15 rfl rfl)
theorem dX1_delayTo_18 : decode cX1_delayTo 18 = .ok (.getfield 107, 3) := dk_180 0 107 (dk_at dksX1_delayTo_0 18 rfl rfl)
theorem dX1_delayTo_21 : decode cX1_delayTo 21 = .ok (.iload_n 1, 1) := dk_27 (dk_at dksX1_delayTo_0 21 rfl rfl)
theorem dX1_delayTo_22 : decode cX1_delayTo 22 = .ok (.iload_n 2, 1) := dk_28 (dk_at dksX1_delayTo_0 22 rfl rfl)
theorem dX1_delayTo_23 : decode cX1_delayTo 23 = .ok (.iload_n 3, 1) := dk_29 (dk_at dksX1_delayTo_0 23 rfl rfl)
theorem dX1_delayTo_24 : decode cX1_delayTo 24 = .ok (.invokevirtual 256, 3) := dk_182 1 0 (dk_at dksX1_delayTo_1 0 rfl rfl)
theorem dX1_delayTo_27 : decode cX1_delayTo 27 = .ok (.ireturn, 1) := dk_172 (dk_at dksX1_delayTo_1 3 rfl rfl)
abbrev cX1_isPoint : ByteArray := prog_1_method_17_code
def yX1_isPoint : MethodName := ⟨RX1, "isPoint", "(II)Z"⟩
def dkwX1_isPoint_1 : List UInt8 := [184, 0, 85, 153, 0, 7, 4, 167, 0, 4, 3, 172]
abbrev dktX1_isPoint_1 : List UInt8 := dkwX1_isPoint_1 ++ []
def dkwX1_isPoint_0 : List UInt8 := [26, 133, 20, 0, 143, 20, 0, 145, 184, 0, 85, 153, 0, 21, 27, 133, 20, 0, 143, 20, 0, 145]
abbrev dktX1_isPoint_0 : List UInt8 := dkwX1_isPoint_0 ++ dktX1_isPoint_1
theorem dksX1_isPoint_0 : cX1_isPoint.data.toList.drop 0 = dktX1_isPoint_0 := by decide +kernel
theorem dksX1_isPoint_1 : cX1_isPoint.data.toList.drop 22 = dktX1_isPoint_1 := dk_seg dksX1_isPoint_0 22 rfl rfl
theorem dX1_isPoint_0 : decode cX1_isPoint 0 = .ok (.iload_n 0, 1) := dk_26 (dk_at dksX1_isPoint_0 0 rfl rfl)
theorem dX1_isPoint_1 : decode cX1_isPoint 1 = .ok (.i2l, 1) := dk_133 (dk_at dksX1_isPoint_0 1 rfl rfl)
theorem dX1_isPoint_2 : decode cX1_isPoint 2 = .ok (.ldc2_w 143, 3) := dk_20 0 143 (dk_at dksX1_isPoint_0 2 rfl rfl)
theorem dX1_isPoint_5 : decode cX1_isPoint 5 = .ok (.ldc2_w 145, 3) := dk_20 0 145 (dk_at dksX1_isPoint_0 5 rfl rfl)
theorem dX1_isPoint_8 : decode cX1_isPoint 8 = .ok (.invokestatic 85, 3) := dk_184 0 85 (dk_at dksX1_isPoint_0 8 rfl rfl)
theorem dX1_isPoint_11 : decode cX1_isPoint 11 = .ok (.ifCond .eq 21, 3) := dk_153 0 21 (dk_at dksX1_isPoint_0 11 rfl rfl)
theorem dX1_isPoint_14 : decode cX1_isPoint 14 = .ok (.iload_n 1, 1) := dk_27 (dk_at dksX1_isPoint_0 14 rfl rfl)
theorem dX1_isPoint_15 : decode cX1_isPoint 15 = .ok (.i2l, 1) := dk_133 (dk_at dksX1_isPoint_0 15 rfl rfl)
theorem dX1_isPoint_16 : decode cX1_isPoint 16 = .ok (.ldc2_w 143, 3) := dk_20 0 143 (dk_at dksX1_isPoint_0 16 rfl rfl)
theorem dX1_isPoint_19 : decode cX1_isPoint 19 = .ok (.ldc2_w 145, 3) := dk_20 0 145 (dk_at dksX1_isPoint_0 19 rfl rfl)
theorem dX1_isPoint_22 : decode cX1_isPoint 22 = .ok (.invokestatic 85, 3) := dk_184 0 85 (dk_at dksX1_isPoint_1 0 rfl rfl)
theorem dX1_isPoint_25 : decode cX1_isPoint 25 = .ok (.ifCond .eq 7, 3) := dk_153 0 7 (dk_at dksX1_isPoint_1 3 rfl rfl)
theorem dX1_isPoint_28 : decode cX1_isPoint 28 = .ok (.iconst 1, 1) := dk_4 (dk_at dksX1_isPoint_1 6 rfl rfl)
theorem dX1_isPoint_29 : decode cX1_isPoint 29 = .ok (.goto 4, 3) := dk_167 0 4 (dk_at dksX1_isPoint_1 7 rfl rfl)
theorem dX1_isPoint_32 : decode cX1_isPoint 32 = .ok (.iconst 0, 1) := dk_3 (dk_at dksX1_isPoint_1 10 rfl rfl)
theorem dX1_isPoint_33 : decode cX1_isPoint 33 = .ok (.ireturn, 1) := dk_172 (dk_at dksX1_isPoint_1 11 rfl rfl)
abbrev cX1_spread : ByteArray := prog_1_method_37_code
def yX1_spread : MethodName := ⟨RX1, "spread", "(I)I"⟩
def dkwX1_spread_0 : List UInt8 := [42, 27, 182, 0, 137, 27, 182, 1, 4, 172]
abbrev dktX1_spread_0 : List UInt8 := dkwX1_spread_0 ++ []
theorem dksX1_spread_0 : cX1_spread.data.toList.drop 0 = dktX1_spread_0 := by decide +kernel
theorem dX1_spread_0 : decode cX1_spread 0 = .ok (.aload_n 0, 1) := dk_42 (dk_at dksX1_spread_0 0 rfl rfl)
theorem dX1_spread_1 : decode cX1_spread 1 = .ok (.iload_n 1, 1) := dk_27 (dk_at dksX1_spread_0 1 rfl rfl)
theorem dX1_spread_2 : decode cX1_spread 2 = .ok (.invokevirtual 137, 3) := dk_182 0 137 (dk_at dksX1_spread_0 2 rfl rfl)
theorem dX1_spread_5 : decode cX1_spread 5 = .ok (.iload_n 1, 1) := dk_27 (dk_at dksX1_spread_0 5 rfl rfl)
theorem dX1_spread_6 : decode cX1_spread 6 = .ok (.invokevirtual 260, 3) := dk_182 1 4 (dk_at dksX1_spread_0 6 rfl rfl)
theorem dX1_spread_9 : decode cX1_spread 9 = .ok (.ireturn, 1) := dk_172 (dk_at dksX1_spread_0 9 rfl rfl)
abbrev cX1_window : ByteArray := prog_1_method_38_code
def yX1_window : MethodName := ⟨RX1, "window", "(I)I"⟩
def dkwX1_window_0 : List UInt8 := [42, 27, 182, 0, 137, 27, 182, 1, 7, 172]
abbrev dktX1_window_0 : List UInt8 := dkwX1_window_0 ++ []
theorem dksX1_window_0 : cX1_window.data.toList.drop 0 = dktX1_window_0 := by decide +kernel
theorem dX1_window_0 : decode cX1_window 0 = .ok (.aload_n 0, 1) := dk_42 (dk_at dksX1_window_0 0 rfl rfl)
theorem dX1_window_1 : decode cX1_window 1 = .ok (.iload_n 1, 1) := dk_27 (dk_at dksX1_window_0 1 rfl rfl)
theorem dX1_window_2 : decode cX1_window 2 = .ok (.invokevirtual 137, 3) := dk_182 0 137 (dk_at dksX1_window_0 2 rfl rfl)
theorem dX1_window_5 : decode cX1_window 5 = .ok (.iload_n 1, 1) := dk_27 (dk_at dksX1_window_0 5 rfl rfl)
theorem dX1_window_6 : decode cX1_window 6 = .ok (.invokevirtual 263, 3) := dk_182 1 7 (dk_at dksX1_window_0 6 rfl rfl)
theorem dX1_window_9 : decode cX1_window 9 = .ok (.ireturn, 1) := dk_172 (dk_at dksX1_window_0 9 rfl rfl)
abbrev cX1_sample : ByteArray := prog_1_method_39_code
def yX1_sample : MethodName := ⟨RX1, "sample", "(II)I"⟩
def dkwX1_sample_1 : List UInt8 := [46, 172]
abbrev dktX1_sample_1 : List UInt8 := dkwX1_sample_1 ++ []
def dkwX1_sample_0 : List UInt8 := [42, 27, 182, 0, 133, 87, 42, 28, 182, 0, 226, 184, 0, 185, 42, 180, 0, 95, 180, 1, 10, 27, 50, 28]
abbrev dktX1_sample_0 : List UInt8 := dkwX1_sample_0 ++ dktX1_sample_1
theorem dksX1_sample_0 : cX1_sample.data.toList.drop 0 = dktX1_sample_0 := by decide +kernel
theorem dksX1_sample_1 : cX1_sample.data.toList.drop 24 = dktX1_sample_1 := dk_seg dksX1_sample_0 24 rfl rfl
theorem dX1_sample_0 : decode cX1_sample 0 = .ok (.aload_n 0, 1) := dk_42 (dk_at dksX1_sample_0 0 rfl rfl)
theorem dX1_sample_1 : decode cX1_sample 1 = .ok (.iload_n 1, 1) := dk_27 (dk_at dksX1_sample_0 1 rfl rfl)
theorem dX1_sample_2 : decode cX1_sample 2 = .ok (.invokevirtual 133, 3) := dk_182 0 133 (dk_at dksX1_sample_0 2 rfl rfl)
theorem dX1_sample_5 : decode cX1_sample 5 = .ok (.pop, 1) := dk_87 (dk_at dksX1_sample_0 5 rfl rfl)
theorem dX1_sample_6 : decode cX1_sample 6 = .ok (.aload_n 0, 1) := dk_42 (dk_at dksX1_sample_0 6 rfl rfl)
theorem dX1_sample_7 : decode cX1_sample 7 = .ok (.iload_n 2, 1) := dk_28 (dk_at dksX1_sample_0 7 rfl rfl)
theorem dX1_sample_8 : decode cX1_sample 8 = .ok (.invokevirtual 226, 3) := dk_182 0 226 (dk_at dksX1_sample_0 8 rfl rfl)
theorem dX1_sample_11 : decode cX1_sample 11 = .ok (.invokestatic 185, 3) := dk_184 0 185 (dk_at dksX1_sample_0 11 rfl rfl)
theorem dX1_sample_14 : decode cX1_sample 14 = .ok (.aload_n 0, 1) := dk_42 (dk_at dksX1_sample_0 14 rfl rfl)
theorem dX1_sample_15 : decode cX1_sample 15 = .ok (.getfield 95, 3) := dk_180 0 95 (dk_at dksX1_sample_0 15 rfl rfl)
theorem dX1_sample_18 : decode cX1_sample 18 = .ok (.getfield 266, 3) := dk_180 1 10 (dk_at dksX1_sample_0 18 rfl rfl)
theorem dX1_sample_21 : decode cX1_sample 21 = .ok (.iload_n 1, 1) := dk_27 (dk_at dksX1_sample_0 21 rfl rfl)
theorem dX1_sample_22 : decode cX1_sample 22 = .ok (.aaload, 1) := dk_50 (dk_at dksX1_sample_0 22 rfl rfl)
theorem dX1_sample_23 : decode cX1_sample 23 = .ok (.iload_n 2, 1) := dk_28 (dk_at dksX1_sample_0 23 rfl rfl)
theorem dX1_sample_24 : decode cX1_sample 24 = .ok (.iaload, 1) := dk_46 (dk_at dksX1_sample_1 0 rfl rfl)
theorem dX1_sample_25 : decode cX1_sample 25 = .ok (.ireturn, 1) := dk_172 (dk_at dksX1_sample_1 1 rfl rfl)
abbrev cX1_beam : ByteArray := prog_1_method_40_code
def yX1_beam : MethodName := ⟨RX1, "beam", "(II)I"⟩
def dkwX1_beam_1 : List UInt8 := [180, 0, 95, 27, 28, 182, 1, 13, 172]
abbrev dktX1_beam_1 : List UInt8 := dkwX1_beam_1 ++ []
def dkwX1_beam_0 : List UInt8 := [28, 133, 9, 42, 27, 182, 0, 137, 27, 182, 1, 7, 4, 100, 133, 184, 0, 85, 184, 0, 185, 42]
abbrev dktX1_beam_0 : List UInt8 := dkwX1_beam_0 ++ dktX1_beam_1
theorem dksX1_beam_0 : cX1_beam.data.toList.drop 0 = dktX1_beam_0 := by decide +kernel
theorem dksX1_beam_1 : cX1_beam.data.toList.drop 22 = dktX1_beam_1 := dk_seg dksX1_beam_0 22 rfl rfl
theorem dX1_beam_0 : decode cX1_beam 0 = .ok (.iload_n 2, 1) := dk_28 (dk_at dksX1_beam_0 0 rfl rfl)
theorem dX1_beam_1 : decode cX1_beam 1 = .ok (.i2l, 1) := dk_133 (dk_at dksX1_beam_0 1 rfl rfl)
theorem dX1_beam_2 : decode cX1_beam 2 = .ok (.lconst 0, 1) := dk_9 (dk_at dksX1_beam_0 2 rfl rfl)
theorem dX1_beam_3 : decode cX1_beam 3 = .ok (.aload_n 0, 1) := dk_42 (dk_at dksX1_beam_0 3 rfl rfl)
theorem dX1_beam_4 : decode cX1_beam 4 = .ok (.iload_n 1, 1) := dk_27 (dk_at dksX1_beam_0 4 rfl rfl)
theorem dX1_beam_5 : decode cX1_beam 5 = .ok (.invokevirtual 137, 3) := dk_182 0 137 (dk_at dksX1_beam_0 5 rfl rfl)
theorem dX1_beam_8 : decode cX1_beam 8 = .ok (.iload_n 1, 1) := dk_27 (dk_at dksX1_beam_0 8 rfl rfl)
theorem dX1_beam_9 : decode cX1_beam 9 = .ok (.invokevirtual 263, 3) := dk_182 1 7 (dk_at dksX1_beam_0 9 rfl rfl)
theorem dX1_beam_12 : decode cX1_beam 12 = .ok (.iconst 1, 1) := dk_4 (dk_at dksX1_beam_0 12 rfl rfl)
theorem dX1_beam_13 : decode cX1_beam 13 = .ok (.isub, 1) := dk_100 (dk_at dksX1_beam_0 13 rfl rfl)
theorem dX1_beam_14 : decode cX1_beam 14 = .ok (.i2l, 1) := dk_133 (dk_at dksX1_beam_0 14 rfl rfl)
theorem dX1_beam_15 : decode cX1_beam 15 = .ok (.invokestatic 85, 3) := dk_184 0 85 (dk_at dksX1_beam_0 15 rfl rfl)
theorem dX1_beam_18 : decode cX1_beam 18 = .ok (.invokestatic 185, 3) := dk_184 0 185 (dk_at dksX1_beam_0 18 rfl rfl)
theorem dX1_beam_21 : decode cX1_beam 21 = .ok (.aload_n 0, 1) := dk_42 (dk_at dksX1_beam_0 21 rfl rfl)
theorem dX1_beam_22 : decode cX1_beam 22 = .ok (.getfield 95, 3) := dk_180 0 95 (dk_at dksX1_beam_1 0 rfl rfl)
theorem dX1_beam_25 : decode cX1_beam 25 = .ok (.iload_n 1, 1) := dk_27 (dk_at dksX1_beam_1 3 rfl rfl)
theorem dX1_beam_26 : decode cX1_beam 26 = .ok (.iload_n 2, 1) := dk_28 (dk_at dksX1_beam_1 4 rfl rfl)
theorem dX1_beam_27 : decode cX1_beam 27 = .ok (.invokevirtual 269, 3) := dk_182 1 13 (dk_at dksX1_beam_1 5 rfl rfl)
theorem dX1_beam_30 : decode cX1_beam 30 = .ok (.ireturn, 1) := dk_172 (dk_at dksX1_beam_1 8 rfl rfl)
abbrev cX1_power : ByteArray := prog_1_method_41_code
def yX1_power : MethodName := ⟨RX1, "power", "(I)J"⟩
def dkwX1_power_0 : List UInt8 := [42, 27, 182, 0, 137, 182, 1, 17, 27, 47, 173]
abbrev dktX1_power_0 : List UInt8 := dkwX1_power_0 ++ []
theorem dksX1_power_0 : cX1_power.data.toList.drop 0 = dktX1_power_0 := by decide +kernel
theorem dX1_power_0 : decode cX1_power 0 = .ok (.aload_n 0, 1) := dk_42 (dk_at dksX1_power_0 0 rfl rfl)
theorem dX1_power_1 : decode cX1_power 1 = .ok (.iload_n 1, 1) := dk_27 (dk_at dksX1_power_0 1 rfl rfl)
theorem dX1_power_2 : decode cX1_power 2 = .ok (.invokevirtual 137, 3) := dk_182 0 137 (dk_at dksX1_power_0 2 rfl rfl)
theorem dX1_power_5 : decode cX1_power 5 = .ok (.invokevirtual 273, 3) := dk_182 1 17 (dk_at dksX1_power_0 5 rfl rfl)
theorem dX1_power_8 : decode cX1_power 8 = .ok (.iload_n 1, 1) := dk_27 (dk_at dksX1_power_0 8 rfl rfl)
theorem dX1_power_9 : decode cX1_power 9 = .ok (.laload, 1) := dk_47 (dk_at dksX1_power_0 9 rfl rfl)
theorem dX1_power_10 : decode cX1_power 10 = .ok (.lreturn, 1) := dk_173 (dk_at dksX1_power_0 10 rfl rfl)
abbrev cX1_powerAt : ByteArray := prog_1_method_42_code
def yX1_powerAt : MethodName := ⟨RX1, "powerAt", "(II)J"⟩
def dkwX1_powerAt_0 : List UInt8 := [42, 182, 0, 103, 87, 27, 28, 184, 0, 252, 184, 0, 185, 42, 180, 0, 95, 27, 28, 182, 1, 21, 173]
abbrev dktX1_powerAt_0 : List UInt8 := dkwX1_powerAt_0 ++ []
theorem dksX1_powerAt_0 : cX1_powerAt.data.toList.drop 0 = dktX1_powerAt_0 := by decide +kernel
theorem dX1_powerAt_0 : decode cX1_powerAt 0 = .ok (.aload_n 0, 1) := dk_42 (dk_at dksX1_powerAt_0 0 rfl rfl)
theorem dX1_powerAt_1 : decode cX1_powerAt 1 = .ok (.invokevirtual 103, 3) := dk_182 0 103 (dk_at dksX1_powerAt_0 1 rfl rfl)
theorem dX1_powerAt_4 : decode cX1_powerAt 4 = .ok (.pop, 1) := dk_87 (dk_at dksX1_powerAt_0 4 rfl rfl)
theorem dX1_powerAt_5 : decode cX1_powerAt 5 = .ok (.iload_n 1, 1) := dk_27 (dk_at dksX1_powerAt_0 5 rfl rfl)
theorem dX1_powerAt_6 : decode cX1_powerAt 6 = .ok (.iload_n 2, 1) := dk_28 (dk_at dksX1_powerAt_0 6 rfl rfl)
theorem dX1_powerAt_7 : decode cX1_powerAt 7 = .ok (.invokestatic 252, 3) := dk_184 0 252 (dk_at dksX1_powerAt_0 7 rfl rfl)
theorem dX1_powerAt_10 : decode cX1_powerAt 10 = .ok (.invokestatic 185, 3) := dk_184 0 185 (dk_at dksX1_powerAt_0 10 rfl rfl)
theorem dX1_powerAt_13 : decode cX1_powerAt 13 = .ok (.aload_n 0, 1) := dk_42 (dk_at dksX1_powerAt_0 13 rfl rfl)
theorem dX1_powerAt_14 : decode cX1_powerAt 14 = .ok (.getfield 95, 3) := dk_180 0 95 (dk_at dksX1_powerAt_0 14 rfl rfl)
theorem dX1_powerAt_17 : decode cX1_powerAt 17 = .ok (.iload_n 1, 1) := dk_27 (dk_at dksX1_powerAt_0 17 rfl rfl)
theorem dX1_powerAt_18 : decode cX1_powerAt 18 = .ok (.iload_n 2, 1) := dk_28 (dk_at dksX1_powerAt_0 18 rfl rfl)
theorem dX1_powerAt_19 : decode cX1_powerAt 19 = .ok (.invokevirtual 277, 3) := dk_182 1 21 (dk_at dksX1_powerAt_0 19 rfl rfl)
theorem dX1_powerAt_22 : decode cX1_powerAt 22 = .ok (.lreturn, 1) := dk_173 (dk_at dksX1_powerAt_0 22 rfl rfl)
abbrev cX1_best : ByteArray := prog_1_method_43_code
def yX1_best : MethodName := ⟨RX1, "best", "()I"⟩
def dkwX1_best_0 : List UInt8 := [42, 182, 0, 103, 182, 1, 25, 172]
abbrev dktX1_best_0 : List UInt8 := dkwX1_best_0 ++ []
theorem dksX1_best_0 : cX1_best.data.toList.drop 0 = dktX1_best_0 := by decide +kernel
theorem dX1_best_0 : decode cX1_best 0 = .ok (.aload_n 0, 1) := dk_42 (dk_at dksX1_best_0 0 rfl rfl)
theorem dX1_best_1 : decode cX1_best 1 = .ok (.invokevirtual 103, 3) := dk_182 0 103 (dk_at dksX1_best_0 1 rfl rfl)
theorem dX1_best_4 : decode cX1_best 4 = .ok (.invokevirtual 281, 3) := dk_182 1 25 (dk_at dksX1_best_0 4 rfl rfl)
theorem dX1_best_7 : decode cX1_best 7 = .ok (.ireturn, 1) := dk_172 (dk_at dksX1_best_0 7 rfl rfl)
abbrev cX1_best_2 : ByteArray := prog_1_method_3_code
def yX1_best_2 : MethodName := ⟨RX1, "best", "(ILAcousticCamera$Score;)I"⟩
def dkwX1_best_2_2 : List UInt8 := [132, 5, 1, 167, 255, 221, 28, 172]
abbrev dktX1_best_2_2 : List UInt8 := dkwX1_best_2_2 ++ []
def dkwX1_best_2_1 : List UInt8 := [185, 0, 3, 2, 0, 55, 6, 22, 6, 33, 148, 157, 0, 6, 167, 0, 9, 21, 5, 61, 22, 6, 66]
abbrev dktX1_best_2_1 : List UInt8 := dkwX1_best_2_1 ++ dktX1_best_2_2
def dkwX1_best_2_0 : List UInt8 := [3, 61, 43, 3, 185, 0, 3, 2, 0, 66, 4, 54, 5, 21, 5, 26, 162, 0, 35, 43, 21, 5]
abbrev dktX1_best_2_0 : List UInt8 := dkwX1_best_2_0 ++ dktX1_best_2_1
theorem dksX1_best_2_0 : cX1_best_2.data.toList.drop 0 = dktX1_best_2_0 := by decide +kernel
theorem dksX1_best_2_1 : cX1_best_2.data.toList.drop 22 = dktX1_best_2_1 := dk_seg dksX1_best_2_0 22 rfl rfl
theorem dksX1_best_2_2 : cX1_best_2.data.toList.drop 45 = dktX1_best_2_2 := dk_seg dksX1_best_2_1 23 rfl rfl
theorem dX1_best_2_0 : decode cX1_best_2 0 = .ok (.iconst 0, 1) := dk_3 (dk_at dksX1_best_2_0 0 rfl rfl)
theorem dX1_best_2_1 : decode cX1_best_2 1 = .ok (.istore_n 2, 1) := dk_61 (dk_at dksX1_best_2_0 1 rfl rfl)
theorem dX1_best_2_2 : decode cX1_best_2 2 = .ok (.aload_n 1, 1) := dk_43 (dk_at dksX1_best_2_0 2 rfl rfl)
theorem dX1_best_2_3 : decode cX1_best_2 3 = .ok (.iconst 0, 1) := dk_3 (dk_at dksX1_best_2_0 3 rfl rfl)
theorem dX1_best_2_4 : decode cX1_best_2 4 = .ok (.invokeinterface 3 2, 5) := by decide +kernel
theorem dX1_best_2_9 : decode cX1_best_2 9 = .ok (.lstore_n 3, 1) := dk_66 (dk_at dksX1_best_2_0 9 rfl rfl)
theorem dX1_best_2_10 : decode cX1_best_2 10 = .ok (.iconst 1, 1) := dk_4 (dk_at dksX1_best_2_0 10 rfl rfl)
theorem dX1_best_2_11 : decode cX1_best_2 11 = .ok (.istore 5, 2) := dk_54 5 (dk_at dksX1_best_2_0 11 rfl rfl)
theorem dX1_best_2_13 : decode cX1_best_2 13 = .ok (.iload 5, 2) := dk_21 5 (dk_at dksX1_best_2_0 13 rfl rfl)
theorem dX1_best_2_15 : decode cX1_best_2 15 = .ok (.iload_n 0, 1) := dk_26 (dk_at dksX1_best_2_0 15 rfl rfl)
theorem dX1_best_2_16 : decode cX1_best_2 16 = .ok (.if_icmp .ge 35, 3) := dk_162 0 35 (dk_at dksX1_best_2_0 16 rfl rfl)
theorem dX1_best_2_19 : decode cX1_best_2 19 = .ok (.aload_n 1, 1) := dk_43 (dk_at dksX1_best_2_0 19 rfl rfl)
theorem dX1_best_2_20 : decode cX1_best_2 20 = .ok (.iload 5, 2) := dk_21 5 (dk_at dksX1_best_2_0 20 rfl rfl)
theorem dX1_best_2_22 : decode cX1_best_2 22 = .ok (.invokeinterface 3 2, 5) := by decide +kernel
theorem dX1_best_2_27 : decode cX1_best_2 27 = .ok (.lstore 6, 2) := dk_55 6 (dk_at dksX1_best_2_1 5 rfl rfl)
theorem dX1_best_2_29 : decode cX1_best_2 29 = .ok (.lload 6, 2) := dk_22 6 (dk_at dksX1_best_2_1 7 rfl rfl)
theorem dX1_best_2_31 : decode cX1_best_2 31 = .ok (.lload_n 3, 1) := dk_33 (dk_at dksX1_best_2_1 9 rfl rfl)
theorem dX1_best_2_32 : decode cX1_best_2 32 = .ok (.lcmp, 1) := dk_148 (dk_at dksX1_best_2_1 10 rfl rfl)
theorem dX1_best_2_33 : decode cX1_best_2 33 = .ok (.ifCond .gt 6, 3) := dk_157 0 6 (dk_at dksX1_best_2_1 11 rfl rfl)
theorem dX1_best_2_36 : decode cX1_best_2 36 = .ok (.goto 9, 3) := dk_167 0 9 (dk_at dksX1_best_2_1 14 rfl rfl)
theorem dX1_best_2_39 : decode cX1_best_2 39 = .ok (.iload 5, 2) := dk_21 5 (dk_at dksX1_best_2_1 17 rfl rfl)
theorem dX1_best_2_41 : decode cX1_best_2 41 = .ok (.istore_n 2, 1) := dk_61 (dk_at dksX1_best_2_1 19 rfl rfl)
theorem dX1_best_2_42 : decode cX1_best_2 42 = .ok (.lload 6, 2) := dk_22 6 (dk_at dksX1_best_2_1 20 rfl rfl)
theorem dX1_best_2_44 : decode cX1_best_2 44 = .ok (.lstore_n 3, 1) := dk_66 (dk_at dksX1_best_2_1 22 rfl rfl)
theorem dX1_best_2_45 : decode cX1_best_2 45 = .ok (.iinc 5 1, 3) := dk_132 5 1 (dk_at dksX1_best_2_2 0 rfl rfl)
theorem dX1_best_2_48 : decode cX1_best_2 48 = .ok (.goto (-35), 3) := dk_167 255 221 (dk_at dksX1_best_2_2 3 rfl rfl)
theorem dX1_best_2_51 : decode cX1_best_2 51 = .ok (.iload_n 2, 1) := dk_28 (dk_at dksX1_best_2_2 6 rfl rfl)
theorem dX1_best_2_52 : decode cX1_best_2 52 = .ok (.ireturn, 1) := dk_172 (dk_at dksX1_best_2_2 7 rfl rfl)
abbrev cX1_bestPower : ByteArray := prog_1_method_44_code
def yX1_bestPower : MethodName := ⟨RX1, "bestPower", "()J"⟩
def dkwX1_bestPower_0 : List UInt8 := [42, 182, 0, 103, 182, 1, 17, 42, 180, 0, 95, 182, 1, 25, 47, 173]
abbrev dktX1_bestPower_0 : List UInt8 := dkwX1_bestPower_0 ++ []
theorem dksX1_bestPower_0 : cX1_bestPower.data.toList.drop 0 = dktX1_bestPower_0 := by decide +kernel
theorem dX1_bestPower_0 : decode cX1_bestPower 0 = .ok (.aload_n 0, 1) := dk_42 (dk_at dksX1_bestPower_0 0 rfl rfl)
theorem dX1_bestPower_1 : decode cX1_bestPower 1 = .ok (.invokevirtual 103, 3) := dk_182 0 103 (dk_at dksX1_bestPower_0 1 rfl rfl)
theorem dX1_bestPower_4 : decode cX1_bestPower 4 = .ok (.invokevirtual 273, 3) := dk_182 1 17 (dk_at dksX1_bestPower_0 4 rfl rfl)
theorem dX1_bestPower_7 : decode cX1_bestPower 7 = .ok (.aload_n 0, 1) := dk_42 (dk_at dksX1_bestPower_0 7 rfl rfl)
theorem dX1_bestPower_8 : decode cX1_bestPower 8 = .ok (.getfield 95, 3) := dk_180 0 95 (dk_at dksX1_bestPower_0 8 rfl rfl)
theorem dX1_bestPower_11 : decode cX1_bestPower 11 = .ok (.invokevirtual 281, 3) := dk_182 1 25 (dk_at dksX1_bestPower_0 11 rfl rfl)
theorem dX1_bestPower_14 : decode cX1_bestPower 14 = .ok (.laload, 1) := dk_47 (dk_at dksX1_bestPower_0 14 rfl rfl)
theorem dX1_bestPower_15 : decode cX1_bestPower 15 = .ok (.lreturn, 1) := dk_173 (dk_at dksX1_bestPower_0 15 rfl rfl)
abbrev cX1_meanPower : ByteArray := prog_1_method_45_code
def yX1_meanPower : MethodName := ⟨RX1, "meanPower", "()J"⟩
def dkwX1_meanPower_2 : List UInt8 := [180, 0, 107, 182, 0, 126, 133, 109, 173]
abbrev dktX1_meanPower_2 : List UInt8 := dkwX1_meanPower_2 ++ []
def dkwX1_meanPower_1 : List UInt8 := [45, 21, 5, 47, 55, 6, 31, 22, 6, 97, 64, 132, 5, 1, 167, 255, 235, 31, 42, 180, 0, 95]
abbrev dktX1_meanPower_1 : List UInt8 := dkwX1_meanPower_1 ++ dktX1_meanPower_2
def dkwX1_meanPower_0 : List UInt8 := [9, 64, 42, 182, 0, 103, 182, 1, 17, 78, 45, 190, 54, 4, 3, 54, 5, 21, 5, 21, 4, 162, 0, 20]
abbrev dktX1_meanPower_0 : List UInt8 := dkwX1_meanPower_0 ++ dktX1_meanPower_1
theorem dksX1_meanPower_0 : cX1_meanPower.data.toList.drop 0 = dktX1_meanPower_0 := by decide +kernel
theorem dksX1_meanPower_1 : cX1_meanPower.data.toList.drop 24 = dktX1_meanPower_1 := dk_seg dksX1_meanPower_0 24 rfl rfl
theorem dksX1_meanPower_2 : cX1_meanPower.data.toList.drop 46 = dktX1_meanPower_2 := dk_seg dksX1_meanPower_1 22 rfl rfl
theorem dX1_meanPower_0 : decode cX1_meanPower 0 = .ok (.lconst 0, 1) := dk_9 (dk_at dksX1_meanPower_0 0 rfl rfl)
theorem dX1_meanPower_1 : decode cX1_meanPower 1 = .ok (.lstore_n 1, 1) := dk_64 (dk_at dksX1_meanPower_0 1 rfl rfl)
theorem dX1_meanPower_2 : decode cX1_meanPower 2 = .ok (.aload_n 0, 1) := dk_42 (dk_at dksX1_meanPower_0 2 rfl rfl)
theorem dX1_meanPower_3 : decode cX1_meanPower 3 = .ok (.invokevirtual 103, 3) := dk_182 0 103 (dk_at dksX1_meanPower_0 3 rfl rfl)
theorem dX1_meanPower_6 : decode cX1_meanPower 6 = .ok (.invokevirtual 273, 3) := dk_182 1 17 (dk_at dksX1_meanPower_0 6 rfl rfl)
theorem dX1_meanPower_9 : decode cX1_meanPower 9 = .ok (.astore_n 3, 1) := dk_78 (dk_at dksX1_meanPower_0 9 rfl rfl)
theorem dX1_meanPower_10 : decode cX1_meanPower 10 = .ok (.aload_n 3, 1) := dk_45 (dk_at dksX1_meanPower_0 10 rfl rfl)
theorem dX1_meanPower_11 : decode cX1_meanPower 11 = .ok (.arraylength, 1) := dk_190 (dk_at dksX1_meanPower_0 11 rfl rfl)
theorem dX1_meanPower_12 : decode cX1_meanPower 12 = .ok (.istore 4, 2) := dk_54 4 (dk_at dksX1_meanPower_0 12 rfl rfl)
theorem dX1_meanPower_14 : decode cX1_meanPower 14 = .ok (.iconst 0, 1) := dk_3 (dk_at dksX1_meanPower_0 14 rfl rfl)
theorem dX1_meanPower_15 : decode cX1_meanPower 15 = .ok (.istore 5, 2) := dk_54 5 (dk_at dksX1_meanPower_0 15 rfl rfl)
theorem dX1_meanPower_17 : decode cX1_meanPower 17 = .ok (.iload 5, 2) := dk_21 5 (dk_at dksX1_meanPower_0 17 rfl rfl)
theorem dX1_meanPower_19 : decode cX1_meanPower 19 = .ok (.iload 4, 2) := dk_21 4 (dk_at dksX1_meanPower_0 19 rfl rfl)
theorem dX1_meanPower_21 : decode cX1_meanPower 21 = .ok (.if_icmp .ge 20, 3) := dk_162 0 20 (dk_at dksX1_meanPower_0 21 rfl rfl)
theorem dX1_meanPower_24 : decode cX1_meanPower 24 = .ok (.aload_n 3, 1) := dk_45 (dk_at dksX1_meanPower_1 0 rfl rfl)
theorem dX1_meanPower_25 : decode cX1_meanPower 25 = .ok (.iload 5, 2) := dk_21 5 (dk_at dksX1_meanPower_1 1 rfl rfl)
theorem dX1_meanPower_27 : decode cX1_meanPower 27 = .ok (.laload, 1) := dk_47 (dk_at dksX1_meanPower_1 3 rfl rfl)
theorem dX1_meanPower_28 : decode cX1_meanPower 28 = .ok (.lstore 6, 2) := dk_55 6 (dk_at dksX1_meanPower_1 4 rfl rfl)
theorem dX1_meanPower_30 : decode cX1_meanPower 30 = .ok (.lload_n 1, 1) := dk_31 (dk_at dksX1_meanPower_1 6 rfl rfl)
theorem dX1_meanPower_31 : decode cX1_meanPower 31 = .ok (.lload 6, 2) := dk_22 6 (dk_at dksX1_meanPower_1 7 rfl rfl)
theorem dX1_meanPower_33 : decode cX1_meanPower 33 = .ok (.ladd, 1) := dk_97 (dk_at dksX1_meanPower_1 9 rfl rfl)
theorem dX1_meanPower_34 : decode cX1_meanPower 34 = .ok (.lstore_n 1, 1) := dk_64 (dk_at dksX1_meanPower_1 10 rfl rfl)
theorem dX1_meanPower_35 : decode cX1_meanPower 35 = .ok (.iinc 5 1, 3) := dk_132 5 1 (dk_at dksX1_meanPower_1 11 rfl rfl)
theorem dX1_meanPower_38 : decode cX1_meanPower 38 = .ok (.goto (-21), 3) := dk_167 255 235 (dk_at dksX1_meanPower_1 14 rfl rfl)
theorem dX1_meanPower_41 : decode cX1_meanPower 41 = .ok (.lload_n 1, 1) := dk_31 (dk_at dksX1_meanPower_1 17 rfl rfl)
theorem dX1_meanPower_42 : decode cX1_meanPower 42 = .ok (.aload_n 0, 1) := dk_42 (dk_at dksX1_meanPower_1 18 rfl rfl)
theorem dX1_meanPower_43 : decode cX1_meanPower 43 = .ok (.getfield 95, 3) := dk_180 0 95 (dk_at dksX1_meanPower_1 19 rfl rfl)
theorem dX1_meanPower_46 : decode cX1_meanPower 46 = .ok (.getfield 107, 3) := dk_180 0 107 (dk_at dksX1_meanPower_2 0 rfl rfl)
theorem dX1_meanPower_49 : decode cX1_meanPower 49 = .ok (.invokevirtual 126, 3) := dk_182 0 126 (dk_at dksX1_meanPower_2 3 rfl rfl)
theorem dX1_meanPower_52 : decode cX1_meanPower 52 = .ok (.i2l, 1) := dk_133 (dk_at dksX1_meanPower_2 6 rfl rfl)
theorem dX1_meanPower_53 : decode cX1_meanPower 53 = .ok (.ldiv, 1) := dk_109 (dk_at dksX1_meanPower_2 7 rfl rfl)
theorem dX1_meanPower_54 : decode cX1_meanPower 54 = .ok (.lreturn, 1) := dk_173 (dk_at dksX1_meanPower_2 8 rfl rfl)
abbrev cX1_peaks : ByteArray := prog_1_method_46_code
def yX1_peaks : MethodName := ⟨RX1, "peaks", "()I"⟩
def dkwX1_peaks_0 : List UInt8 := [42, 182, 0, 103, 76, 43, 180, 0, 107, 182, 0, 126, 43, 186, 1, 28, 0, 0, 184, 1, 31, 172]
abbrev dktX1_peaks_0 : List UInt8 := dkwX1_peaks_0 ++ []
theorem dksX1_peaks_0 : cX1_peaks.data.toList.drop 0 = dktX1_peaks_0 := by decide +kernel
theorem dX1_peaks_0 : decode cX1_peaks 0 = .ok (.aload_n 0, 1) := dk_42 (dk_at dksX1_peaks_0 0 rfl rfl)
theorem dX1_peaks_1 : decode cX1_peaks 1 = .ok (.invokevirtual 103, 3) := dk_182 0 103 (dk_at dksX1_peaks_0 1 rfl rfl)
theorem dX1_peaks_4 : decode cX1_peaks 4 = .ok (.astore_n 1, 1) := dk_76 (dk_at dksX1_peaks_0 4 rfl rfl)
theorem dX1_peaks_5 : decode cX1_peaks 5 = .ok (.aload_n 1, 1) := dk_43 (dk_at dksX1_peaks_0 5 rfl rfl)
theorem dX1_peaks_6 : decode cX1_peaks 6 = .ok (.getfield 107, 3) := dk_180 0 107 (dk_at dksX1_peaks_0 6 rfl rfl)
theorem dX1_peaks_9 : decode cX1_peaks 9 = .ok (.invokevirtual 126, 3) := dk_182 0 126 (dk_at dksX1_peaks_0 9 rfl rfl)
theorem dX1_peaks_12 : decode cX1_peaks 12 = .ok (.aload_n 1, 1) := dk_43 (dk_at dksX1_peaks_0 12 rfl rfl)
theorem dX1_peaks_13 : decode cX1_peaks 13 = .ok (.invokedynamic 284, 5) := by decide +kernel
theorem dX1_peaks_18 : decode cX1_peaks 18 = .ok (.invokestatic 287, 3) := dk_184 1 31 (dk_at dksX1_peaks_0 18 rfl rfl)
theorem dX1_peaks_21 : decode cX1_peaks 21 = .ok (.ireturn, 1) := dk_172 (dk_at dksX1_peaks_0 21 rfl rfl)
abbrev cX1_lambda_peaks_0 : ByteArray := prog_1_method_99_code
def yX1_lambda_peaks_0 : MethodName := ⟨RX1, "lambda$peaks$0", "(LAcousticCamera$State;I)Z"⟩
def dkwX1_lambda_peaks_0_0 : List UInt8 := [42, 27, 182, 1, 41, 172]
abbrev dktX1_lambda_peaks_0_0 : List UInt8 := dkwX1_lambda_peaks_0_0 ++ []
theorem dksX1_lambda_peaks_0_0 : cX1_lambda_peaks_0.data.toList.drop 0 = dktX1_lambda_peaks_0_0 := by decide +kernel
theorem dX1_lambda_peaks_0_0 : decode cX1_lambda_peaks_0 0 = .ok (.aload_n 0, 1) := dk_42 (dk_at dksX1_lambda_peaks_0_0 0 rfl rfl)
theorem dX1_lambda_peaks_0_1 : decode cX1_lambda_peaks_0 1 = .ok (.iload_n 1, 1) := dk_27 (dk_at dksX1_lambda_peaks_0_0 1 rfl rfl)
theorem dX1_lambda_peaks_0_2 : decode cX1_lambda_peaks_0 2 = .ok (.invokevirtual 297, 3) := dk_182 1 41 (dk_at dksX1_lambda_peaks_0_0 2 rfl rfl)
theorem dX1_lambda_peaks_0_5 : decode cX1_lambda_peaks_0 5 = .ok (.ireturn, 1) := dk_172 (dk_at dksX1_lambda_peaks_0_0 5 rfl rfl)
abbrev cX1_count : ByteArray := prog_1_method_4_code
def yX1_count : MethodName := ⟨RX1, "count", "(ILAcousticCamera$Choice;)I"⟩
def dkwX1_count_1 : List UInt8 := [3, 96, 61, 132, 3, 1, 167, 255, 230, 28, 172]
abbrev dktX1_count_1 : List UInt8 := dkwX1_count_1 ++ []
def dkwX1_count_0 : List UInt8 := [3, 61, 3, 62, 29, 26, 162, 0, 27, 28, 43, 29, 185, 0, 9, 2, 0, 153, 0, 7, 4, 167, 0, 4]
abbrev dktX1_count_0 : List UInt8 := dkwX1_count_0 ++ dktX1_count_1
theorem dksX1_count_0 : cX1_count.data.toList.drop 0 = dktX1_count_0 := by decide +kernel
theorem dksX1_count_1 : cX1_count.data.toList.drop 24 = dktX1_count_1 := dk_seg dksX1_count_0 24 rfl rfl
theorem dX1_count_0 : decode cX1_count 0 = .ok (.iconst 0, 1) := dk_3 (dk_at dksX1_count_0 0 rfl rfl)
theorem dX1_count_1 : decode cX1_count 1 = .ok (.istore_n 2, 1) := dk_61 (dk_at dksX1_count_0 1 rfl rfl)
theorem dX1_count_2 : decode cX1_count 2 = .ok (.iconst 0, 1) := dk_3 (dk_at dksX1_count_0 2 rfl rfl)
theorem dX1_count_3 : decode cX1_count 3 = .ok (.istore_n 3, 1) := dk_62 (dk_at dksX1_count_0 3 rfl rfl)
theorem dX1_count_4 : decode cX1_count 4 = .ok (.iload_n 3, 1) := dk_29 (dk_at dksX1_count_0 4 rfl rfl)
theorem dX1_count_5 : decode cX1_count 5 = .ok (.iload_n 0, 1) := dk_26 (dk_at dksX1_count_0 5 rfl rfl)
theorem dX1_count_6 : decode cX1_count 6 = .ok (.if_icmp .ge 27, 3) := dk_162 0 27 (dk_at dksX1_count_0 6 rfl rfl)
theorem dX1_count_9 : decode cX1_count 9 = .ok (.iload_n 2, 1) := dk_28 (dk_at dksX1_count_0 9 rfl rfl)
theorem dX1_count_10 : decode cX1_count 10 = .ok (.aload_n 1, 1) := dk_43 (dk_at dksX1_count_0 10 rfl rfl)
theorem dX1_count_11 : decode cX1_count 11 = .ok (.iload_n 3, 1) := dk_29 (dk_at dksX1_count_0 11 rfl rfl)
theorem dX1_count_12 : decode cX1_count 12 = .ok (.invokeinterface 9 2, 5) := by decide +kernel
theorem dX1_count_17 : decode cX1_count 17 = .ok (.ifCond .eq 7, 3) := dk_153 0 7 (dk_at dksX1_count_0 17 rfl rfl)
theorem dX1_count_20 : decode cX1_count 20 = .ok (.iconst 1, 1) := dk_4 (dk_at dksX1_count_0 20 rfl rfl)
theorem dX1_count_21 : decode cX1_count 21 = .ok (.goto 4, 3) := dk_167 0 4 (dk_at dksX1_count_0 21 rfl rfl)
theorem dX1_count_24 : decode cX1_count 24 = .ok (.iconst 0, 1) := dk_3 (dk_at dksX1_count_1 0 rfl rfl)
theorem dX1_count_25 : decode cX1_count 25 = .ok (.iadd, 1) := dk_96 (dk_at dksX1_count_1 1 rfl rfl)
theorem dX1_count_26 : decode cX1_count 26 = .ok (.istore_n 2, 1) := dk_61 (dk_at dksX1_count_1 2 rfl rfl)
theorem dX1_count_27 : decode cX1_count 27 = .ok (.iinc 3 1, 3) := dk_132 3 1 (dk_at dksX1_count_1 3 rfl rfl)
theorem dX1_count_30 : decode cX1_count 30 = .ok (.goto (-26), 3) := dk_167 255 230 (dk_at dksX1_count_1 6 rfl rfl)
theorem dX1_count_33 : decode cX1_count 33 = .ok (.iload_n 2, 1) := dk_28 (dk_at dksX1_count_1 9 rfl rfl)
theorem dX1_count_34 : decode cX1_count 34 = .ok (.ireturn, 1) := dk_172 (dk_at dksX1_count_1 10 rfl rfl)
abbrev cX1_peakAt : ByteArray := prog_1_method_47_code
def yX1_peakAt : MethodName := ⟨RX1, "peakAt", "(I)I"⟩
def dkwX1_peakAt_1 : List UInt8 := [182, 0, 37, 172]
abbrev dktX1_peakAt_1 : List UInt8 := dkwX1_peakAt_1 ++ []
def dkwX1_peakAt_0 : List UInt8 := [42, 182, 0, 103, 182, 1, 35, 77, 27, 44, 182, 1, 39, 184, 0, 122, 44, 27, 182, 1, 40, 192, 0, 35]
abbrev dktX1_peakAt_0 : List UInt8 := dkwX1_peakAt_0 ++ dktX1_peakAt_1
theorem dksX1_peakAt_0 : cX1_peakAt.data.toList.drop 0 = dktX1_peakAt_0 := by decide +kernel
theorem dksX1_peakAt_1 : cX1_peakAt.data.toList.drop 24 = dktX1_peakAt_1 := dk_seg dksX1_peakAt_0 24 rfl rfl
theorem dX1_peakAt_0 : decode cX1_peakAt 0 = .ok (.aload_n 0, 1) := dk_42 (dk_at dksX1_peakAt_0 0 rfl rfl)
theorem dX1_peakAt_1 : decode cX1_peakAt 1 = .ok (.invokevirtual 103, 3) := dk_182 0 103 (dk_at dksX1_peakAt_0 1 rfl rfl)
theorem dX1_peakAt_4 : decode cX1_peakAt 4 = .ok (.invokevirtual 291, 3) := dk_182 1 35 (dk_at dksX1_peakAt_0 4 rfl rfl)
theorem dX1_peakAt_7 : decode cX1_peakAt 7 = .ok (.astore_n 2, 1) := dk_77 (dk_at dksX1_peakAt_0 7 rfl rfl)
theorem dX1_peakAt_8 : decode cX1_peakAt 8 = .ok (.iload_n 1, 1) := dk_27 (dk_at dksX1_peakAt_0 8 rfl rfl)
theorem dX1_peakAt_9 : decode cX1_peakAt 9 = .ok (.aload_n 2, 1) := dk_44 (dk_at dksX1_peakAt_0 9 rfl rfl)
theorem dX1_peakAt_10 : decode cX1_peakAt 10 = .ok (.invokevirtual 295, 3) := dk_182 1 39 (dk_at dksX1_peakAt_0 10 rfl rfl)
theorem dX1_peakAt_13 : decode cX1_peakAt 13 = .ok (.invokestatic 122, 3) := dk_184 0 122 (dk_at dksX1_peakAt_0 13 rfl rfl)
theorem dX1_peakAt_16 : decode cX1_peakAt 16 = .ok (.aload_n 2, 1) := dk_44 (dk_at dksX1_peakAt_0 16 rfl rfl)
theorem dX1_peakAt_17 : decode cX1_peakAt 17 = .ok (.iload_n 1, 1) := dk_27 (dk_at dksX1_peakAt_0 17 rfl rfl)
theorem dX1_peakAt_18 : decode cX1_peakAt 18 = .ok (.invokevirtual 296, 3) := dk_182 1 40 (dk_at dksX1_peakAt_0 18 rfl rfl)
theorem dX1_peakAt_21 : decode cX1_peakAt 21 = .ok (.checkcast 35, 3) := dk_192 0 35 (dk_at dksX1_peakAt_0 21 rfl rfl)
theorem dX1_peakAt_24 : decode cX1_peakAt 24 = .ok (.invokevirtual 37, 3) := dk_182 0 37 (dk_at dksX1_peakAt_1 0 rfl rfl)
theorem dX1_peakAt_27 : decode cX1_peakAt 27 = .ok (.ireturn, 1) := dk_172 (dk_at dksX1_peakAt_1 3 rfl rfl)
abbrev cX1_ranking : ByteArray := prog_1_method_5_code
def yX1_ranking : MethodName := ⟨RX1, "ranking", "(ILAcousticCamera$Choice;LAcousticCamera$Score;)Ljava/util/LinkedList;"⟩
def dkwX1_ranking_5 : List UInt8 := [167, 255, 155, 45, 176]
abbrev dktX1_ranking_5 : List UInt8 := dkwX1_ranking_5 ++ []
def dkwX1_ranking_4 : List UInt8 := [167, 0, 4, 3, 96, 54, 5, 167, 255, 201, 45, 21, 5, 21, 4, 184, 0, 41, 182, 0, 45, 132, 4, 1]
abbrev dktX1_ranking_4 : List UInt8 := dkwX1_ranking_4 ++ dktX1_ranking_5
def dkwX1_ranking_3 : List UInt8 := [21, 5, 44, 21, 7, 185, 0, 3, 2, 0, 44, 21, 4, 185, 0, 3, 2, 0, 148, 155, 0, 7, 4]
abbrev dktX1_ranking_3 : List UInt8 := dkwX1_ranking_3 ++ dktX1_ranking_4
def dkwX1_ranking_2 : List UInt8 := [185, 0, 25, 1, 0, 153, 0, 51, 25, 6, 185, 0, 31, 1, 0, 192, 0, 35, 182, 0, 37, 54, 7]
abbrev dktX1_ranking_2 : List UInt8 := dkwX1_ranking_2 ++ dktX1_ranking_3
def dkwX1_ranking_1 : List UInt8 := [185, 0, 9, 2, 0, 154, 0, 6, 167, 0, 81, 3, 54, 5, 45, 182, 0, 21, 58, 6, 25, 6]
abbrev dktX1_ranking_1 : List UInt8 := dkwX1_ranking_1 ++ dktX1_ranking_2
def dkwX1_ranking_0 : List UInt8 := [187, 0, 15, 89, 183, 0, 17, 78, 3, 54, 4, 21, 4, 26, 162, 0, 101, 43, 21, 4]
abbrev dktX1_ranking_0 : List UInt8 := dkwX1_ranking_0 ++ dktX1_ranking_1
theorem dksX1_ranking_0 : cX1_ranking.data.toList.drop 0 = dktX1_ranking_0 := by decide +kernel
theorem dksX1_ranking_1 : cX1_ranking.data.toList.drop 20 = dktX1_ranking_1 := dk_seg dksX1_ranking_0 20 rfl rfl
theorem dksX1_ranking_2 : cX1_ranking.data.toList.drop 42 = dktX1_ranking_2 := dk_seg dksX1_ranking_1 22 rfl rfl
theorem dksX1_ranking_3 : cX1_ranking.data.toList.drop 65 = dktX1_ranking_3 := dk_seg dksX1_ranking_2 23 rfl rfl
theorem dksX1_ranking_4 : cX1_ranking.data.toList.drop 88 = dktX1_ranking_4 := dk_seg dksX1_ranking_3 23 rfl rfl
theorem dksX1_ranking_5 : cX1_ranking.data.toList.drop 112 = dktX1_ranking_5 := dk_seg dksX1_ranking_4 24 rfl rfl
theorem dX1_ranking_0 : decode cX1_ranking 0 = .ok (.new 15, 3) := dk_187 0 15 (dk_at dksX1_ranking_0 0 rfl rfl)
theorem dX1_ranking_3 : decode cX1_ranking 3 = .ok (.dup, 1) := dk_89 (dk_at dksX1_ranking_0 3 rfl rfl)
theorem dX1_ranking_4 : decode cX1_ranking 4 = .ok (.invokespecial 17, 3) := dk_183 0 17 (dk_at dksX1_ranking_0 4 rfl rfl)
theorem dX1_ranking_7 : decode cX1_ranking 7 = .ok (.astore_n 3, 1) := dk_78 (dk_at dksX1_ranking_0 7 rfl rfl)
theorem dX1_ranking_8 : decode cX1_ranking 8 = .ok (.iconst 0, 1) := dk_3 (dk_at dksX1_ranking_0 8 rfl rfl)
theorem dX1_ranking_9 : decode cX1_ranking 9 = .ok (.istore 4, 2) := dk_54 4 (dk_at dksX1_ranking_0 9 rfl rfl)
theorem dX1_ranking_11 : decode cX1_ranking 11 = .ok (.iload 4, 2) := dk_21 4 (dk_at dksX1_ranking_0 11 rfl rfl)
theorem dX1_ranking_13 : decode cX1_ranking 13 = .ok (.iload_n 0, 1) := dk_26 (dk_at dksX1_ranking_0 13 rfl rfl)
theorem dX1_ranking_14 : decode cX1_ranking 14 = .ok (.if_icmp .ge 101, 3) := dk_162 0 101 (dk_at dksX1_ranking_0 14 rfl rfl)
theorem dX1_ranking_17 : decode cX1_ranking 17 = .ok (.aload_n 1, 1) := dk_43 (dk_at dksX1_ranking_0 17 rfl rfl)
theorem dX1_ranking_18 : decode cX1_ranking 18 = .ok (.iload 4, 2) := dk_21 4 (dk_at dksX1_ranking_0 18 rfl rfl)
theorem dX1_ranking_20 : decode cX1_ranking 20 = .ok (.invokeinterface 9 2, 5) := by decide +kernel
theorem dX1_ranking_25 : decode cX1_ranking 25 = .ok (.ifCond .ne 6, 3) := dk_154 0 6 (dk_at dksX1_ranking_1 5 rfl rfl)
theorem dX1_ranking_28 : decode cX1_ranking 28 = .ok (.goto 81, 3) := dk_167 0 81 (dk_at dksX1_ranking_1 8 rfl rfl)
theorem dX1_ranking_31 : decode cX1_ranking 31 = .ok (.iconst 0, 1) := dk_3 (dk_at dksX1_ranking_1 11 rfl rfl)
theorem dX1_ranking_32 : decode cX1_ranking 32 = .ok (.istore 5, 2) := dk_54 5 (dk_at dksX1_ranking_1 12 rfl rfl)
theorem dX1_ranking_34 : decode cX1_ranking 34 = .ok (.aload_n 3, 1) := dk_45 (dk_at dksX1_ranking_1 14 rfl rfl)
theorem dX1_ranking_35 : decode cX1_ranking 35 = .ok (.invokevirtual 21, 3) := dk_182 0 21 (dk_at dksX1_ranking_1 15 rfl rfl)
theorem dX1_ranking_38 : decode cX1_ranking 38 = .ok (.astore 6, 2) := dk_58 6 (dk_at dksX1_ranking_1 18 rfl rfl)
theorem dX1_ranking_40 : decode cX1_ranking 40 = .ok (.aload 6, 2) := dk_25 6 (dk_at dksX1_ranking_1 20 rfl rfl)
theorem dX1_ranking_42 : decode cX1_ranking 42 = .ok (.invokeinterface 25 1, 5) := by decide +kernel
theorem dX1_ranking_47 : decode cX1_ranking 47 = .ok (.ifCond .eq 51, 3) := dk_153 0 51 (dk_at dksX1_ranking_2 5 rfl rfl)
theorem dX1_ranking_50 : decode cX1_ranking 50 = .ok (.aload 6, 2) := dk_25 6 (dk_at dksX1_ranking_2 8 rfl rfl)
theorem dX1_ranking_52 : decode cX1_ranking 52 = .ok (.invokeinterface 31 1, 5) := by decide +kernel
theorem dX1_ranking_57 : decode cX1_ranking 57 = .ok (.checkcast 35, 3) := dk_192 0 35 (dk_at dksX1_ranking_2 15 rfl rfl)
theorem dX1_ranking_60 : decode cX1_ranking 60 = .ok (.invokevirtual 37, 3) := dk_182 0 37 (dk_at dksX1_ranking_2 18 rfl rfl)
theorem dX1_ranking_63 : decode cX1_ranking 63 = .ok (.istore 7, 2) := dk_54 7 (dk_at dksX1_ranking_2 21 rfl rfl)
theorem dX1_ranking_65 : decode cX1_ranking 65 = .ok (.iload 5, 2) := dk_21 5 (dk_at dksX1_ranking_3 0 rfl rfl)
theorem dX1_ranking_67 : decode cX1_ranking 67 = .ok (.aload_n 2, 1) := dk_44 (dk_at dksX1_ranking_3 2 rfl rfl)
theorem dX1_ranking_68 : decode cX1_ranking 68 = .ok (.iload 7, 2) := dk_21 7 (dk_at dksX1_ranking_3 3 rfl rfl)
theorem dX1_ranking_70 : decode cX1_ranking 70 = .ok (.invokeinterface 3 2, 5) := by decide +kernel
theorem dX1_ranking_75 : decode cX1_ranking 75 = .ok (.aload_n 2, 1) := dk_44 (dk_at dksX1_ranking_3 10 rfl rfl)
theorem dX1_ranking_76 : decode cX1_ranking 76 = .ok (.iload 4, 2) := dk_21 4 (dk_at dksX1_ranking_3 11 rfl rfl)
theorem dX1_ranking_78 : decode cX1_ranking 78 = .ok (.invokeinterface 3 2, 5) := by decide +kernel
theorem dX1_ranking_83 : decode cX1_ranking 83 = .ok (.lcmp, 1) := dk_148 (dk_at dksX1_ranking_3 18 rfl rfl)
theorem dX1_ranking_84 : decode cX1_ranking 84 = .ok (.ifCond .lt 7, 3) := dk_155 0 7 (dk_at dksX1_ranking_3 19 rfl rfl)
theorem dX1_ranking_87 : decode cX1_ranking 87 = .ok (.iconst 1, 1) := dk_4 (dk_at dksX1_ranking_3 22 rfl rfl)
theorem dX1_ranking_88 : decode cX1_ranking 88 = .ok (.goto 4, 3) := dk_167 0 4 (dk_at dksX1_ranking_4 0 rfl rfl)
theorem dX1_ranking_91 : decode cX1_ranking 91 = .ok (.iconst 0, 1) := dk_3 (dk_at dksX1_ranking_4 3 rfl rfl)
theorem dX1_ranking_92 : decode cX1_ranking 92 = .ok (.iadd, 1) := dk_96 (dk_at dksX1_ranking_4 4 rfl rfl)
theorem dX1_ranking_93 : decode cX1_ranking 93 = .ok (.istore 5, 2) := dk_54 5 (dk_at dksX1_ranking_4 5 rfl rfl)
theorem dX1_ranking_95 : decode cX1_ranking 95 = .ok (.goto (-55), 3) := dk_167 255 201 (dk_at dksX1_ranking_4 7 rfl rfl)
theorem dX1_ranking_98 : decode cX1_ranking 98 = .ok (.aload_n 3, 1) := dk_45 (dk_at dksX1_ranking_4 10 rfl rfl)
theorem dX1_ranking_99 : decode cX1_ranking 99 = .ok (.iload 5, 2) := dk_21 5 (dk_at dksX1_ranking_4 11 rfl rfl)
theorem dX1_ranking_101 : decode cX1_ranking 101 = .ok (.iload 4, 2) := dk_21 4 (dk_at dksX1_ranking_4 13 rfl rfl)
theorem dX1_ranking_103 : decode cX1_ranking 103 = .ok (.invokestatic 41, 3) := dk_184 0 41 (dk_at dksX1_ranking_4 15 rfl rfl)
theorem dX1_ranking_106 : decode cX1_ranking 106 = .ok (.invokevirtual 45, 3) := dk_182 0 45 (dk_at dksX1_ranking_4 18 rfl rfl)
theorem dX1_ranking_109 : decode cX1_ranking 109 = .ok (.iinc 4 1, 3) := dk_132 4 1 (dk_at dksX1_ranking_4 21 rfl rfl)
theorem dX1_ranking_112 : decode cX1_ranking 112 = .ok (.goto (-101), 3) := dk_167 255 155 (dk_at dksX1_ranking_5 0 rfl rfl)
theorem dX1_ranking_115 : decode cX1_ranking 115 = .ok (.aload_n 3, 1) := dk_45 (dk_at dksX1_ranking_5 3 rfl rfl)
theorem dX1_ranking_116 : decode cX1_ranking 116 = .ok (.areturn, 1) := dk_176 (dk_at dksX1_ranking_5 4 rfl rfl)
abbrev cX1_isPeak : ByteArray := prog_1_method_48_code
def yX1_isPeak : MethodName := ⟨RX1, "isPeak", "(I)Z"⟩
def dkwX1_isPeak_0 : List UInt8 := [42, 27, 182, 0, 137, 27, 182, 1, 41, 172]
abbrev dktX1_isPeak_0 : List UInt8 := dkwX1_isPeak_0 ++ []
theorem dksX1_isPeak_0 : cX1_isPeak.data.toList.drop 0 = dktX1_isPeak_0 := by decide +kernel
theorem dX1_isPeak_0 : decode cX1_isPeak 0 = .ok (.aload_n 0, 1) := dk_42 (dk_at dksX1_isPeak_0 0 rfl rfl)
theorem dX1_isPeak_1 : decode cX1_isPeak 1 = .ok (.iload_n 1, 1) := dk_27 (dk_at dksX1_isPeak_0 1 rfl rfl)
theorem dX1_isPeak_2 : decode cX1_isPeak 2 = .ok (.invokevirtual 137, 3) := dk_182 0 137 (dk_at dksX1_isPeak_0 2 rfl rfl)
theorem dX1_isPeak_5 : decode cX1_isPeak 5 = .ok (.iload_n 1, 1) := dk_27 (dk_at dksX1_isPeak_0 5 rfl rfl)
theorem dX1_isPeak_6 : decode cX1_isPeak 6 = .ok (.invokevirtual 297, 3) := dk_182 1 41 (dk_at dksX1_isPeak_0 6 rfl rfl)
theorem dX1_isPeak_9 : decode cX1_isPeak 9 = .ok (.ireturn, 1) := dk_172 (dk_at dksX1_isPeak_0 9 rfl rfl)
abbrev cX1_zonePower : ByteArray := prog_1_method_50_code
def yX1_zonePower : MethodName := ⟨RX1, "zonePower", "(I)J"⟩
def dkwX1_zonePower_2 : List UInt8 := [132, 5, 1, 167, 255, 222, 33, 173]
abbrev dktX1_zonePower_2 : List UInt8 := dkwX1_zonePower_2 ++ []
def dkwX1_zonePower_1 : List UInt8 := [180, 0, 95, 27, 21, 5, 182, 1, 50, 153, 0, 10, 44, 21, 5, 47, 167, 0, 4, 9, 97, 66]
abbrev dktX1_zonePower_1 : List UInt8 := dkwX1_zonePower_1 ++ dktX1_zonePower_2
def dkwX1_zonePower_0 : List UInt8 := [42, 27, 182, 1, 47, 182, 1, 17, 77, 9, 66, 3, 54, 5, 21, 5, 44, 190, 162, 0, 33, 33, 42]
abbrev dktX1_zonePower_0 : List UInt8 := dkwX1_zonePower_0 ++ dktX1_zonePower_1
theorem dksX1_zonePower_0 : cX1_zonePower.data.toList.drop 0 = dktX1_zonePower_0 := by decide +kernel
theorem dksX1_zonePower_1 : cX1_zonePower.data.toList.drop 23 = dktX1_zonePower_1 := dk_seg dksX1_zonePower_0 23 rfl rfl
theorem dksX1_zonePower_2 : cX1_zonePower.data.toList.drop 45 = dktX1_zonePower_2 := dk_seg dksX1_zonePower_1 22 rfl rfl
theorem dX1_zonePower_0 : decode cX1_zonePower 0 = .ok (.aload_n 0, 1) := dk_42 (dk_at dksX1_zonePower_0 0 rfl rfl)
theorem dX1_zonePower_1 : decode cX1_zonePower 1 = .ok (.iload_n 1, 1) := dk_27 (dk_at dksX1_zonePower_0 1 rfl rfl)
theorem dX1_zonePower_2 : decode cX1_zonePower 2 = .ok (.invokevirtual 303, 3) := dk_182 1 47 (dk_at dksX1_zonePower_0 2 rfl rfl)
theorem dX1_zonePower_5 : decode cX1_zonePower 5 = .ok (.invokevirtual 273, 3) := dk_182 1 17 (dk_at dksX1_zonePower_0 5 rfl rfl)
theorem dX1_zonePower_8 : decode cX1_zonePower 8 = .ok (.astore_n 2, 1) := dk_77 (dk_at dksX1_zonePower_0 8 rfl rfl)
theorem dX1_zonePower_9 : decode cX1_zonePower 9 = .ok (.lconst 0, 1) := dk_9 (dk_at dksX1_zonePower_0 9 rfl rfl)
theorem dX1_zonePower_10 : decode cX1_zonePower 10 = .ok (.lstore_n 3, 1) := dk_66 (dk_at dksX1_zonePower_0 10 rfl rfl)
theorem dX1_zonePower_11 : decode cX1_zonePower 11 = .ok (.iconst 0, 1) := dk_3 (dk_at dksX1_zonePower_0 11 rfl rfl)
theorem dX1_zonePower_12 : decode cX1_zonePower 12 = .ok (.istore 5, 2) := dk_54 5 (dk_at dksX1_zonePower_0 12 rfl rfl)
theorem dX1_zonePower_14 : decode cX1_zonePower 14 = .ok (.iload 5, 2) := dk_21 5 (dk_at dksX1_zonePower_0 14 rfl rfl)
theorem dX1_zonePower_16 : decode cX1_zonePower 16 = .ok (.aload_n 2, 1) := dk_44 (dk_at dksX1_zonePower_0 16 rfl rfl)
theorem dX1_zonePower_17 : decode cX1_zonePower 17 = .ok (.arraylength, 1) := dk_190 (dk_at dksX1_zonePower_0 17 rfl rfl)
theorem dX1_zonePower_18 : decode cX1_zonePower 18 = .ok (.if_icmp .ge 33, 3) := dk_162 0 33 (dk_at dksX1_zonePower_0 18 rfl rfl)
theorem dX1_zonePower_21 : decode cX1_zonePower 21 = .ok (.lload_n 3, 1) := dk_33 (dk_at dksX1_zonePower_0 21 rfl rfl)
theorem dX1_zonePower_22 : decode cX1_zonePower 22 = .ok (.aload_n 0, 1) := dk_42 (dk_at dksX1_zonePower_0 22 rfl rfl)
theorem dX1_zonePower_23 : decode cX1_zonePower 23 = .ok (.getfield 95, 3) := dk_180 0 95 (dk_at dksX1_zonePower_1 0 rfl rfl)
theorem dX1_zonePower_26 : decode cX1_zonePower 26 = .ok (.iload_n 1, 1) := dk_27 (dk_at dksX1_zonePower_1 3 rfl rfl)
theorem dX1_zonePower_27 : decode cX1_zonePower 27 = .ok (.iload 5, 2) := dk_21 5 (dk_at dksX1_zonePower_1 4 rfl rfl)
theorem dX1_zonePower_29 : decode cX1_zonePower 29 = .ok (.invokevirtual 306, 3) := dk_182 1 50 (dk_at dksX1_zonePower_1 6 rfl rfl)
theorem dX1_zonePower_32 : decode cX1_zonePower 32 = .ok (.ifCond .eq 10, 3) := dk_153 0 10 (dk_at dksX1_zonePower_1 9 rfl rfl)
theorem dX1_zonePower_35 : decode cX1_zonePower 35 = .ok (.aload_n 2, 1) := dk_44 (dk_at dksX1_zonePower_1 12 rfl rfl)
theorem dX1_zonePower_36 : decode cX1_zonePower 36 = .ok (.iload 5, 2) := dk_21 5 (dk_at dksX1_zonePower_1 13 rfl rfl)
theorem dX1_zonePower_38 : decode cX1_zonePower 38 = .ok (.laload, 1) := dk_47 (dk_at dksX1_zonePower_1 15 rfl rfl)
theorem dX1_zonePower_39 : decode cX1_zonePower 39 = .ok (.goto 4, 3) := dk_167 0 4 (dk_at dksX1_zonePower_1 16 rfl rfl)
theorem dX1_zonePower_42 : decode cX1_zonePower 42 = .ok (.lconst 0, 1) := dk_9 (dk_at dksX1_zonePower_1 19 rfl rfl)
theorem dX1_zonePower_43 : decode cX1_zonePower 43 = .ok (.ladd, 1) := dk_97 (dk_at dksX1_zonePower_1 20 rfl rfl)
theorem dX1_zonePower_44 : decode cX1_zonePower 44 = .ok (.lstore_n 3, 1) := dk_66 (dk_at dksX1_zonePower_1 21 rfl rfl)
theorem dX1_zonePower_45 : decode cX1_zonePower 45 = .ok (.iinc 5 1, 3) := dk_132 5 1 (dk_at dksX1_zonePower_2 0 rfl rfl)
theorem dX1_zonePower_48 : decode cX1_zonePower 48 = .ok (.goto (-34), 3) := dk_167 255 222 (dk_at dksX1_zonePower_2 3 rfl rfl)
theorem dX1_zonePower_51 : decode cX1_zonePower 51 = .ok (.lload_n 3, 1) := dk_33 (dk_at dksX1_zonePower_2 6 rfl rfl)
theorem dX1_zonePower_52 : decode cX1_zonePower 52 = .ok (.lreturn, 1) := dk_173 (dk_at dksX1_zonePower_2 7 rfl rfl)
abbrev cX1_withZone : ByteArray := prog_1_method_49_code
def yX1_withZone : MethodName := ⟨RX1, "withZone", "(I)LAcousticCamera$State;"⟩
def dkwX1_withZone_0 : List UInt8 := [27, 42, 182, 0, 103, 180, 0, 107, 180, 1, 44, 185, 0, 117, 1, 0, 184, 0, 122, 42, 180, 0, 95, 176]
abbrev dktX1_withZone_0 : List UInt8 := dkwX1_withZone_0 ++ []
theorem dksX1_withZone_0 : cX1_withZone.data.toList.drop 0 = dktX1_withZone_0 := by decide +kernel
theorem dX1_withZone_0 : decode cX1_withZone 0 = .ok (.iload_n 1, 1) := dk_27 (dk_at dksX1_withZone_0 0 rfl rfl)
theorem dX1_withZone_1 : decode cX1_withZone 1 = .ok (.aload_n 0, 1) := dk_42 (dk_at dksX1_withZone_0 1 rfl rfl)
theorem dX1_withZone_2 : decode cX1_withZone 2 = .ok (.invokevirtual 103, 3) := dk_182 0 103 (dk_at dksX1_withZone_0 2 rfl rfl)
theorem dX1_withZone_5 : decode cX1_withZone 5 = .ok (.getfield 107, 3) := dk_180 0 107 (dk_at dksX1_withZone_0 5 rfl rfl)
theorem dX1_withZone_8 : decode cX1_withZone 8 = .ok (.getfield 300, 3) := dk_180 1 44 (dk_at dksX1_withZone_0 8 rfl rfl)
theorem dX1_withZone_11 : decode cX1_withZone 11 = .ok (.invokeinterface 117 1, 5) := by decide +kernel
theorem dX1_withZone_16 : decode cX1_withZone 16 = .ok (.invokestatic 122, 3) := dk_184 0 122 (dk_at dksX1_withZone_0 16 rfl rfl)
theorem dX1_withZone_19 : decode cX1_withZone 19 = .ok (.aload_n 0, 1) := dk_42 (dk_at dksX1_withZone_0 19 rfl rfl)
theorem dX1_withZone_20 : decode cX1_withZone 20 = .ok (.getfield 95, 3) := dk_180 0 95 (dk_at dksX1_withZone_0 20 rfl rfl)
theorem dX1_withZone_23 : decode cX1_withZone 23 = .ok (.areturn, 1) := dk_176 (dk_at dksX1_withZone_0 23 rfl rfl)
abbrev cX1_zoneBest : ByteArray := prog_1_method_51_code
def yX1_zoneBest : MethodName := ⟨RX1, "zoneBest", "(I)I"⟩
def dkwX1_zoneBest_1 : List UInt8 := [172]
abbrev dktX1_zoneBest_1 : List UInt8 := dkwX1_zoneBest_1 ++ []
def dkwX1_zoneBest_0 : List UInt8 := [42, 27, 182, 1, 47, 77, 44, 182, 1, 17, 78, 45, 190, 44, 27, 45, 186, 1, 53, 0, 0, 184, 1, 56]
abbrev dktX1_zoneBest_0 : List UInt8 := dkwX1_zoneBest_0 ++ dktX1_zoneBest_1
theorem dksX1_zoneBest_0 : cX1_zoneBest.data.toList.drop 0 = dktX1_zoneBest_0 := by decide +kernel
theorem dksX1_zoneBest_1 : cX1_zoneBest.data.toList.drop 24 = dktX1_zoneBest_1 := dk_seg dksX1_zoneBest_0 24 rfl rfl
theorem dX1_zoneBest_0 : decode cX1_zoneBest 0 = .ok (.aload_n 0, 1) := dk_42 (dk_at dksX1_zoneBest_0 0 rfl rfl)
theorem dX1_zoneBest_1 : decode cX1_zoneBest 1 = .ok (.iload_n 1, 1) := dk_27 (dk_at dksX1_zoneBest_0 1 rfl rfl)
theorem dX1_zoneBest_2 : decode cX1_zoneBest 2 = .ok (.invokevirtual 303, 3) := dk_182 1 47 (dk_at dksX1_zoneBest_0 2 rfl rfl)
theorem dX1_zoneBest_5 : decode cX1_zoneBest 5 = .ok (.astore_n 2, 1) := dk_77 (dk_at dksX1_zoneBest_0 5 rfl rfl)
theorem dX1_zoneBest_6 : decode cX1_zoneBest 6 = .ok (.aload_n 2, 1) := dk_44 (dk_at dksX1_zoneBest_0 6 rfl rfl)
theorem dX1_zoneBest_7 : decode cX1_zoneBest 7 = .ok (.invokevirtual 273, 3) := dk_182 1 17 (dk_at dksX1_zoneBest_0 7 rfl rfl)
theorem dX1_zoneBest_10 : decode cX1_zoneBest 10 = .ok (.astore_n 3, 1) := dk_78 (dk_at dksX1_zoneBest_0 10 rfl rfl)
theorem dX1_zoneBest_11 : decode cX1_zoneBest 11 = .ok (.aload_n 3, 1) := dk_45 (dk_at dksX1_zoneBest_0 11 rfl rfl)
theorem dX1_zoneBest_12 : decode cX1_zoneBest 12 = .ok (.arraylength, 1) := dk_190 (dk_at dksX1_zoneBest_0 12 rfl rfl)
theorem dX1_zoneBest_13 : decode cX1_zoneBest 13 = .ok (.aload_n 2, 1) := dk_44 (dk_at dksX1_zoneBest_0 13 rfl rfl)
theorem dX1_zoneBest_14 : decode cX1_zoneBest 14 = .ok (.iload_n 1, 1) := dk_27 (dk_at dksX1_zoneBest_0 14 rfl rfl)
theorem dX1_zoneBest_15 : decode cX1_zoneBest 15 = .ok (.aload_n 3, 1) := dk_45 (dk_at dksX1_zoneBest_0 15 rfl rfl)
theorem dX1_zoneBest_16 : decode cX1_zoneBest 16 = .ok (.invokedynamic 309, 5) := by decide +kernel
theorem dX1_zoneBest_21 : decode cX1_zoneBest 21 = .ok (.invokestatic 312, 3) := dk_184 1 56 (dk_at dksX1_zoneBest_0 21 rfl rfl)
theorem dX1_zoneBest_24 : decode cX1_zoneBest 24 = .ok (.ireturn, 1) := dk_172 (dk_at dksX1_zoneBest_1 0 rfl rfl)
abbrev cX1_lambda_zoneBest_1 : ByteArray := prog_1_method_98_code
def yX1_lambda_zoneBest_1 : MethodName := ⟨RX1, "lambda$zoneBest$1", "(LAcousticCamera$State;I[JI)J"⟩
def dkwX1_lambda_zoneBest_1_0 : List UInt8 := [42, 27, 29, 182, 1, 50, 153, 0, 9, 44, 29, 47, 167, 0, 6, 20, 1, 249, 173]
abbrev dktX1_lambda_zoneBest_1_0 : List UInt8 := dkwX1_lambda_zoneBest_1_0 ++ []
theorem dksX1_lambda_zoneBest_1_0 : cX1_lambda_zoneBest_1.data.toList.drop 0 = dktX1_lambda_zoneBest_1_0 := by decide +kernel
theorem dX1_lambda_zoneBest_1_0 : decode cX1_lambda_zoneBest_1 0 = .ok (.aload_n 0, 1) := dk_42 (dk_at dksX1_lambda_zoneBest_1_0 0 rfl rfl)
theorem dX1_lambda_zoneBest_1_1 : decode cX1_lambda_zoneBest_1 1 = .ok (.iload_n 1, 1) := dk_27 (dk_at dksX1_lambda_zoneBest_1_0 1 rfl rfl)
theorem dX1_lambda_zoneBest_1_2 : decode cX1_lambda_zoneBest_1 2 = .ok (.iload_n 3, 1) := dk_29 (dk_at dksX1_lambda_zoneBest_1_0 2 rfl rfl)
theorem dX1_lambda_zoneBest_1_3 : decode cX1_lambda_zoneBest_1 3 = .ok (.invokevirtual 306, 3) := dk_182 1 50 (dk_at dksX1_lambda_zoneBest_1_0 3 rfl rfl)
theorem dX1_lambda_zoneBest_1_6 : decode cX1_lambda_zoneBest_1 6 = .ok (.ifCond .eq 9, 3) := dk_153 0 9 (dk_at dksX1_lambda_zoneBest_1_0 6 rfl rfl)
theorem dX1_lambda_zoneBest_1_9 : decode cX1_lambda_zoneBest_1 9 = .ok (.aload_n 2, 1) := dk_44 (dk_at dksX1_lambda_zoneBest_1_0 9 rfl rfl)
theorem dX1_lambda_zoneBest_1_10 : decode cX1_lambda_zoneBest_1 10 = .ok (.iload_n 3, 1) := dk_29 (dk_at dksX1_lambda_zoneBest_1_0 10 rfl rfl)
theorem dX1_lambda_zoneBest_1_11 : decode cX1_lambda_zoneBest_1 11 = .ok (.laload, 1) := dk_47 (dk_at dksX1_lambda_zoneBest_1_0 11 rfl rfl)
theorem dX1_lambda_zoneBest_1_12 : decode cX1_lambda_zoneBest_1 12 = .ok (.goto 6, 3) := dk_167 0 6 (dk_at dksX1_lambda_zoneBest_1_0 12 rfl rfl)
theorem dX1_lambda_zoneBest_1_15 : decode cX1_lambda_zoneBest_1 15 = .ok (.ldc2_w 505, 3) := dk_20 1 249 (dk_at dksX1_lambda_zoneBest_1_0 15 rfl rfl)
theorem dX1_lambda_zoneBest_1_18 : decode cX1_lambda_zoneBest_1 18 = .ok (.lreturn, 1) := dk_173 (dk_at dksX1_lambda_zoneBest_1_0 18 rfl rfl)
abbrev cX1_contrast : ByteArray := prog_1_method_52_code
def yX1_contrast : MethodName := ⟨RX1, "contrast", "()F"⟩
def dkwX1_contrast_2 : List UInt8 := [167, 0, 12, 43, 28, 47, 137, 43, 29, 47, 137, 110, 174]
abbrev dktX1_contrast_2 : List UInt8 := dkwX1_contrast_2 ++ []
def dkwX1_contrast_1 : List UInt8 := [43, 190, 28, 43, 186, 1, 59, 0, 0, 184, 1, 56, 62, 43, 29, 47, 9, 148, 154, 0, 7, 11]
abbrev dktX1_contrast_1 : List UInt8 := dkwX1_contrast_1 ++ dktX1_contrast_2
def dkwX1_contrast_0 : List UInt8 := [42, 182, 0, 103, 182, 1, 17, 76, 42, 180, 0, 95, 182, 1, 25, 61, 43, 190, 4, 160, 0, 5, 11, 174]
abbrev dktX1_contrast_0 : List UInt8 := dkwX1_contrast_0 ++ dktX1_contrast_1
theorem dksX1_contrast_0 : cX1_contrast.data.toList.drop 0 = dktX1_contrast_0 := by decide +kernel
theorem dksX1_contrast_1 : cX1_contrast.data.toList.drop 24 = dktX1_contrast_1 := dk_seg dksX1_contrast_0 24 rfl rfl
theorem dksX1_contrast_2 : cX1_contrast.data.toList.drop 46 = dktX1_contrast_2 := dk_seg dksX1_contrast_1 22 rfl rfl
theorem dX1_contrast_0 : decode cX1_contrast 0 = .ok (.aload_n 0, 1) := dk_42 (dk_at dksX1_contrast_0 0 rfl rfl)
theorem dX1_contrast_1 : decode cX1_contrast 1 = .ok (.invokevirtual 103, 3) := dk_182 0 103 (dk_at dksX1_contrast_0 1 rfl rfl)
theorem dX1_contrast_4 : decode cX1_contrast 4 = .ok (.invokevirtual 273, 3) := dk_182 1 17 (dk_at dksX1_contrast_0 4 rfl rfl)
theorem dX1_contrast_7 : decode cX1_contrast 7 = .ok (.astore_n 1, 1) := dk_76 (dk_at dksX1_contrast_0 7 rfl rfl)
theorem dX1_contrast_8 : decode cX1_contrast 8 = .ok (.aload_n 0, 1) := dk_42 (dk_at dksX1_contrast_0 8 rfl rfl)
theorem dX1_contrast_9 : decode cX1_contrast 9 = .ok (.getfield 95, 3) := dk_180 0 95 (dk_at dksX1_contrast_0 9 rfl rfl)
theorem dX1_contrast_12 : decode cX1_contrast 12 = .ok (.invokevirtual 281, 3) := dk_182 1 25 (dk_at dksX1_contrast_0 12 rfl rfl)
theorem dX1_contrast_15 : decode cX1_contrast 15 = .ok (.istore_n 2, 1) := dk_61 (dk_at dksX1_contrast_0 15 rfl rfl)
theorem dX1_contrast_16 : decode cX1_contrast 16 = .ok (.aload_n 1, 1) := dk_43 (dk_at dksX1_contrast_0 16 rfl rfl)
theorem dX1_contrast_17 : decode cX1_contrast 17 = .ok (.arraylength, 1) := dk_190 (dk_at dksX1_contrast_0 17 rfl rfl)
theorem dX1_contrast_18 : decode cX1_contrast 18 = .ok (.iconst 1, 1) := dk_4 (dk_at dksX1_contrast_0 18 rfl rfl)
theorem dX1_contrast_19 : decode cX1_contrast 19 = .ok (.if_icmp .ne 5, 3) := dk_160 0 5 (dk_at dksX1_contrast_0 19 rfl rfl)
theorem dX1_contrast_22 : decode cX1_contrast 22 = .ok (.fconst 0, 1) := dk_11 (dk_at dksX1_contrast_0 22 rfl rfl)
theorem dX1_contrast_23 : decode cX1_contrast 23 = .ok (.freturn, 1) := dk_174 (dk_at dksX1_contrast_0 23 rfl rfl)
theorem dX1_contrast_24 : decode cX1_contrast 24 = .ok (.aload_n 1, 1) := dk_43 (dk_at dksX1_contrast_1 0 rfl rfl)
theorem dX1_contrast_25 : decode cX1_contrast 25 = .ok (.arraylength, 1) := dk_190 (dk_at dksX1_contrast_1 1 rfl rfl)
theorem dX1_contrast_26 : decode cX1_contrast 26 = .ok (.iload_n 2, 1) := dk_28 (dk_at dksX1_contrast_1 2 rfl rfl)
theorem dX1_contrast_27 : decode cX1_contrast 27 = .ok (.aload_n 1, 1) := dk_43 (dk_at dksX1_contrast_1 3 rfl rfl)
theorem dX1_contrast_28 : decode cX1_contrast 28 = .ok (.invokedynamic 315, 5) := by decide +kernel
theorem dX1_contrast_33 : decode cX1_contrast 33 = .ok (.invokestatic 312, 3) := dk_184 1 56 (dk_at dksX1_contrast_1 9 rfl rfl)
theorem dX1_contrast_36 : decode cX1_contrast 36 = .ok (.istore_n 3, 1) := dk_62 (dk_at dksX1_contrast_1 12 rfl rfl)
theorem dX1_contrast_37 : decode cX1_contrast 37 = .ok (.aload_n 1, 1) := dk_43 (dk_at dksX1_contrast_1 13 rfl rfl)
theorem dX1_contrast_38 : decode cX1_contrast 38 = .ok (.iload_n 3, 1) := dk_29 (dk_at dksX1_contrast_1 14 rfl rfl)
theorem dX1_contrast_39 : decode cX1_contrast 39 = .ok (.laload, 1) := dk_47 (dk_at dksX1_contrast_1 15 rfl rfl)
theorem dX1_contrast_40 : decode cX1_contrast 40 = .ok (.lconst 0, 1) := dk_9 (dk_at dksX1_contrast_1 16 rfl rfl)
theorem dX1_contrast_41 : decode cX1_contrast 41 = .ok (.lcmp, 1) := dk_148 (dk_at dksX1_contrast_1 17 rfl rfl)
theorem dX1_contrast_42 : decode cX1_contrast 42 = .ok (.ifCond .ne 7, 3) := dk_154 0 7 (dk_at dksX1_contrast_1 18 rfl rfl)
theorem dX1_contrast_45 : decode cX1_contrast 45 = .ok (.fconst 0, 1) := dk_11 (dk_at dksX1_contrast_1 21 rfl rfl)
theorem dX1_contrast_46 : decode cX1_contrast 46 = .ok (.goto 12, 3) := dk_167 0 12 (dk_at dksX1_contrast_2 0 rfl rfl)
theorem dX1_contrast_49 : decode cX1_contrast 49 = .ok (.aload_n 1, 1) := dk_43 (dk_at dksX1_contrast_2 3 rfl rfl)
theorem dX1_contrast_50 : decode cX1_contrast 50 = .ok (.iload_n 2, 1) := dk_28 (dk_at dksX1_contrast_2 4 rfl rfl)
theorem dX1_contrast_51 : decode cX1_contrast 51 = .ok (.laload, 1) := dk_47 (dk_at dksX1_contrast_2 5 rfl rfl)
theorem dX1_contrast_52 : decode cX1_contrast 52 = .ok (.l2f, 1) := dk_137 (dk_at dksX1_contrast_2 6 rfl rfl)
theorem dX1_contrast_53 : decode cX1_contrast 53 = .ok (.aload_n 1, 1) := dk_43 (dk_at dksX1_contrast_2 7 rfl rfl)
theorem dX1_contrast_54 : decode cX1_contrast 54 = .ok (.iload_n 3, 1) := dk_29 (dk_at dksX1_contrast_2 8 rfl rfl)
theorem dX1_contrast_55 : decode cX1_contrast 55 = .ok (.laload, 1) := dk_47 (dk_at dksX1_contrast_2 9 rfl rfl)
theorem dX1_contrast_56 : decode cX1_contrast 56 = .ok (.l2f, 1) := dk_137 (dk_at dksX1_contrast_2 10 rfl rfl)
theorem dX1_contrast_57 : decode cX1_contrast 57 = .ok (.fdiv, 1) := dk_110 (dk_at dksX1_contrast_2 11 rfl rfl)
theorem dX1_contrast_58 : decode cX1_contrast 58 = .ok (.freturn, 1) := dk_174 (dk_at dksX1_contrast_2 12 rfl rfl)
abbrev cX1_lambda_contrast_2 : ByteArray := prog_1_method_97_code
def yX1_lambda_contrast_2 : MethodName := ⟨RX1, "lambda$contrast$2", "(I[JI)J"⟩
def dkwX1_lambda_contrast_2_0 : List UInt8 := [28, 26, 160, 0, 9, 20, 1, 249, 167, 0, 6, 43, 28, 47, 173]
abbrev dktX1_lambda_contrast_2_0 : List UInt8 := dkwX1_lambda_contrast_2_0 ++ []
theorem dksX1_lambda_contrast_2_0 : cX1_lambda_contrast_2.data.toList.drop 0 = dktX1_lambda_contrast_2_0 := by decide +kernel
theorem dX1_lambda_contrast_2_0 : decode cX1_lambda_contrast_2 0 = .ok (.iload_n 2, 1) := dk_28 (dk_at dksX1_lambda_contrast_2_0 0 rfl rfl)
theorem dX1_lambda_contrast_2_1 : decode cX1_lambda_contrast_2 1 = .ok (.iload_n 0, 1) := dk_26 (dk_at dksX1_lambda_contrast_2_0 1 rfl rfl)
theorem dX1_lambda_contrast_2_2 : decode cX1_lambda_contrast_2 2 = .ok (.if_icmp .ne 9, 3) := dk_160 0 9 (dk_at dksX1_lambda_contrast_2_0 2 rfl rfl)
theorem dX1_lambda_contrast_2_5 : decode cX1_lambda_contrast_2 5 = .ok (.ldc2_w 505, 3) := dk_20 1 249 (dk_at dksX1_lambda_contrast_2_0 5 rfl rfl)
theorem dX1_lambda_contrast_2_8 : decode cX1_lambda_contrast_2 8 = .ok (.goto 6, 3) := dk_167 0 6 (dk_at dksX1_lambda_contrast_2_0 8 rfl rfl)
theorem dX1_lambda_contrast_2_11 : decode cX1_lambda_contrast_2 11 = .ok (.aload_n 1, 1) := dk_43 (dk_at dksX1_lambda_contrast_2_0 11 rfl rfl)
theorem dX1_lambda_contrast_2_12 : decode cX1_lambda_contrast_2 12 = .ok (.iload_n 2, 1) := dk_28 (dk_at dksX1_lambda_contrast_2_0 12 rfl rfl)
theorem dX1_lambda_contrast_2_13 : decode cX1_lambda_contrast_2 13 = .ok (.laload, 1) := dk_47 (dk_at dksX1_lambda_contrast_2_0 13 rfl rfl)
theorem dX1_lambda_contrast_2_14 : decode cX1_lambda_contrast_2 14 = .ok (.lreturn, 1) := dk_173 (dk_at dksX1_lambda_contrast_2_0 14 rfl rfl)
abbrev cX1_alias : ByteArray := prog_1_method_53_code
def yX1_alias : MethodName := ⟨RX1, "alias", "(III)I"⟩
def dkwX1_alias_1 : List UInt8 := [172]
abbrev dktX1_alias_1 : List UInt8 := dkwX1_alias_1 ++ []
def dkwX1_alias_0 : List UInt8 := [42, 27, 28, 182, 1, 62, 87, 29, 184, 1, 66, 184, 0, 185, 42, 180, 0, 95, 27, 28, 29, 182, 1, 69]
abbrev dktX1_alias_0 : List UInt8 := dkwX1_alias_0 ++ dktX1_alias_1
theorem dksX1_alias_0 : cX1_alias.data.toList.drop 0 = dktX1_alias_0 := by decide +kernel
theorem dksX1_alias_1 : cX1_alias.data.toList.drop 24 = dktX1_alias_1 := dk_seg dksX1_alias_0 24 rfl rfl
theorem dX1_alias_0 : decode cX1_alias 0 = .ok (.aload_n 0, 1) := dk_42 (dk_at dksX1_alias_0 0 rfl rfl)
theorem dX1_alias_1 : decode cX1_alias 1 = .ok (.iload_n 1, 1) := dk_27 (dk_at dksX1_alias_0 1 rfl rfl)
theorem dX1_alias_2 : decode cX1_alias 2 = .ok (.iload_n 2, 1) := dk_28 (dk_at dksX1_alias_0 2 rfl rfl)
theorem dX1_alias_3 : decode cX1_alias 3 = .ok (.invokevirtual 318, 3) := dk_182 1 62 (dk_at dksX1_alias_0 3 rfl rfl)
theorem dX1_alias_6 : decode cX1_alias 6 = .ok (.pop, 1) := dk_87 (dk_at dksX1_alias_0 6 rfl rfl)
theorem dX1_alias_7 : decode cX1_alias 7 = .ok (.iload_n 3, 1) := dk_29 (dk_at dksX1_alias_0 7 rfl rfl)
theorem dX1_alias_8 : decode cX1_alias 8 = .ok (.invokestatic 322, 3) := dk_184 1 66 (dk_at dksX1_alias_0 8 rfl rfl)
theorem dX1_alias_11 : decode cX1_alias 11 = .ok (.invokestatic 185, 3) := dk_184 0 185 (dk_at dksX1_alias_0 11 rfl rfl)
theorem dX1_alias_14 : decode cX1_alias 14 = .ok (.aload_n 0, 1) := dk_42 (dk_at dksX1_alias_0 14 rfl rfl)
theorem dX1_alias_15 : decode cX1_alias 15 = .ok (.getfield 95, 3) := dk_180 0 95 (dk_at dksX1_alias_0 15 rfl rfl)
theorem dX1_alias_18 : decode cX1_alias 18 = .ok (.iload_n 1, 1) := dk_27 (dk_at dksX1_alias_0 18 rfl rfl)
theorem dX1_alias_19 : decode cX1_alias 19 = .ok (.iload_n 2, 1) := dk_28 (dk_at dksX1_alias_0 19 rfl rfl)
theorem dX1_alias_20 : decode cX1_alias 20 = .ok (.iload_n 3, 1) := dk_29 (dk_at dksX1_alias_0 20 rfl rfl)
theorem dX1_alias_21 : decode cX1_alias 21 = .ok (.invokevirtual 325, 3) := dk_182 1 69 (dk_at dksX1_alias_0 21 rfl rfl)
theorem dX1_alias_24 : decode cX1_alias 24 = .ok (.ireturn, 1) := dk_172 (dk_at dksX1_alias_1 0 rfl rfl)
abbrev cX1_withCells : ByteArray := prog_1_method_15_code
def yX1_withCells : MethodName := ⟨RX1, "withCells", "(II)LAcousticCamera$State;"⟩
def dkwX1_withCells_0 : List UInt8 := [42, 27, 182, 0, 137, 87, 42, 28, 182, 0, 137, 176]
abbrev dktX1_withCells_0 : List UInt8 := dkwX1_withCells_0 ++ []
theorem dksX1_withCells_0 : cX1_withCells.data.toList.drop 0 = dktX1_withCells_0 := by decide +kernel
theorem dX1_withCells_0 : decode cX1_withCells 0 = .ok (.aload_n 0, 1) := dk_42 (dk_at dksX1_withCells_0 0 rfl rfl)
theorem dX1_withCells_1 : decode cX1_withCells 1 = .ok (.iload_n 1, 1) := dk_27 (dk_at dksX1_withCells_0 1 rfl rfl)
theorem dX1_withCells_2 : decode cX1_withCells 2 = .ok (.invokevirtual 137, 3) := dk_182 0 137 (dk_at dksX1_withCells_0 2 rfl rfl)
theorem dX1_withCells_5 : decode cX1_withCells 5 = .ok (.pop, 1) := dk_87 (dk_at dksX1_withCells_0 5 rfl rfl)
theorem dX1_withCells_6 : decode cX1_withCells 6 = .ok (.aload_n 0, 1) := dk_42 (dk_at dksX1_withCells_0 6 rfl rfl)
theorem dX1_withCells_7 : decode cX1_withCells 7 = .ok (.iload_n 2, 1) := dk_28 (dk_at dksX1_withCells_0 7 rfl rfl)
theorem dX1_withCells_8 : decode cX1_withCells 8 = .ok (.invokevirtual 137, 3) := dk_182 0 137 (dk_at dksX1_withCells_0 8 rfl rfl)
theorem dX1_withCells_11 : decode cX1_withCells 11 = .ok (.areturn, 1) := dk_176 (dk_at dksX1_withCells_0 11 rfl rfl)
abbrev cX1_isPeriod : ByteArray := prog_1_method_18_code
def yX1_isPeriod : MethodName := ⟨RX1, "isPeriod", "(I)Z"⟩
def dkwX1_isPeriod_0 : List UInt8 := [26, 133, 20, 0, 147, 20, 0, 149, 184, 0, 85, 172]
abbrev dktX1_isPeriod_0 : List UInt8 := dkwX1_isPeriod_0 ++ []
theorem dksX1_isPeriod_0 : cX1_isPeriod.data.toList.drop 0 = dktX1_isPeriod_0 := by decide +kernel
theorem dX1_isPeriod_0 : decode cX1_isPeriod 0 = .ok (.iload_n 0, 1) := dk_26 (dk_at dksX1_isPeriod_0 0 rfl rfl)
theorem dX1_isPeriod_1 : decode cX1_isPeriod 1 = .ok (.i2l, 1) := dk_133 (dk_at dksX1_isPeriod_0 1 rfl rfl)
theorem dX1_isPeriod_2 : decode cX1_isPeriod 2 = .ok (.ldc2_w 147, 3) := dk_20 0 147 (dk_at dksX1_isPeriod_0 2 rfl rfl)
theorem dX1_isPeriod_5 : decode cX1_isPeriod 5 = .ok (.ldc2_w 149, 3) := dk_20 0 149 (dk_at dksX1_isPeriod_0 5 rfl rfl)
theorem dX1_isPeriod_8 : decode cX1_isPeriod 8 = .ok (.invokestatic 85, 3) := dk_184 0 85 (dk_at dksX1_isPeriod_0 8 rfl rfl)
theorem dX1_isPeriod_11 : decode cX1_isPeriod 11 = .ok (.ireturn, 1) := dk_172 (dk_at dksX1_isPeriod_0 11 rfl rfl)
abbrev cX1_isAlias : ByteArray := prog_1_method_55_code
def yX1_isAlias : MethodName := ⟨RX1, "isAlias", "(III)Z"⟩
def dkwX1_isAlias_0 : List UInt8 := [42, 27, 182, 0, 137, 87, 28, 29, 184, 1, 74, 42, 180, 0, 95, 27, 28, 29, 182, 1, 77, 172]
abbrev dktX1_isAlias_0 : List UInt8 := dkwX1_isAlias_0 ++ []
theorem dksX1_isAlias_0 : cX1_isAlias.data.toList.drop 0 = dktX1_isAlias_0 := by decide +kernel
theorem dX1_isAlias_0 : decode cX1_isAlias 0 = .ok (.aload_n 0, 1) := dk_42 (dk_at dksX1_isAlias_0 0 rfl rfl)
theorem dX1_isAlias_1 : decode cX1_isAlias 1 = .ok (.iload_n 1, 1) := dk_27 (dk_at dksX1_isAlias_0 1 rfl rfl)
theorem dX1_isAlias_2 : decode cX1_isAlias 2 = .ok (.invokevirtual 137, 3) := dk_182 0 137 (dk_at dksX1_isAlias_0 2 rfl rfl)
theorem dX1_isAlias_5 : decode cX1_isAlias 5 = .ok (.pop, 1) := dk_87 (dk_at dksX1_isAlias_0 5 rfl rfl)
theorem dX1_isAlias_6 : decode cX1_isAlias 6 = .ok (.iload_n 2, 1) := dk_28 (dk_at dksX1_isAlias_0 6 rfl rfl)
theorem dX1_isAlias_7 : decode cX1_isAlias 7 = .ok (.iload_n 3, 1) := dk_29 (dk_at dksX1_isAlias_0 7 rfl rfl)
theorem dX1_isAlias_8 : decode cX1_isAlias 8 = .ok (.invokestatic 330, 3) := dk_184 1 74 (dk_at dksX1_isAlias_0 8 rfl rfl)
theorem dX1_isAlias_11 : decode cX1_isAlias 11 = .ok (.aload_n 0, 1) := dk_42 (dk_at dksX1_isAlias_0 11 rfl rfl)
theorem dX1_isAlias_12 : decode cX1_isAlias 12 = .ok (.getfield 95, 3) := dk_180 0 95 (dk_at dksX1_isAlias_0 12 rfl rfl)
theorem dX1_isAlias_15 : decode cX1_isAlias 15 = .ok (.iload_n 1, 1) := dk_27 (dk_at dksX1_isAlias_0 15 rfl rfl)
theorem dX1_isAlias_16 : decode cX1_isAlias 16 = .ok (.iload_n 2, 1) := dk_28 (dk_at dksX1_isAlias_0 16 rfl rfl)
theorem dX1_isAlias_17 : decode cX1_isAlias 17 = .ok (.iload_n 3, 1) := dk_29 (dk_at dksX1_isAlias_0 17 rfl rfl)
theorem dX1_isAlias_18 : decode cX1_isAlias 18 = .ok (.invokevirtual 333, 3) := dk_182 1 77 (dk_at dksX1_isAlias_0 18 rfl rfl)
theorem dX1_isAlias_21 : decode cX1_isAlias 21 = .ok (.ireturn, 1) := dk_172 (dk_at dksX1_isAlias_0 21 rfl rfl)
abbrev cX1_checkShare : ByteArray := prog_1_method_54_code
def yX1_checkShare : MethodName := ⟨RX1, "checkShare", "(II)V"⟩
def dkwX1_checkShare_1 : List UInt8 := [184, 0, 185, 177]
abbrev dktX1_checkShare_1 : List UInt8 := dkwX1_checkShare_1 ++ []
def dkwX1_checkShare_0 : List UInt8 := [26, 184, 1, 66, 153, 0, 19, 27, 133, 10, 20, 1, 72, 184, 0, 85, 153, 0, 7, 4, 167, 0, 4, 3]
abbrev dktX1_checkShare_0 : List UInt8 := dkwX1_checkShare_0 ++ dktX1_checkShare_1
theorem dksX1_checkShare_0 : cX1_checkShare.data.toList.drop 0 = dktX1_checkShare_0 := by decide +kernel
theorem dksX1_checkShare_1 : cX1_checkShare.data.toList.drop 24 = dktX1_checkShare_1 := dk_seg dksX1_checkShare_0 24 rfl rfl
theorem dX1_checkShare_0 : decode cX1_checkShare 0 = .ok (.iload_n 0, 1) := dk_26 (dk_at dksX1_checkShare_0 0 rfl rfl)
theorem dX1_checkShare_1 : decode cX1_checkShare 1 = .ok (.invokestatic 322, 3) := dk_184 1 66 (dk_at dksX1_checkShare_0 1 rfl rfl)
theorem dX1_checkShare_4 : decode cX1_checkShare 4 = .ok (.ifCond .eq 19, 3) := dk_153 0 19 (dk_at dksX1_checkShare_0 4 rfl rfl)
theorem dX1_checkShare_7 : decode cX1_checkShare 7 = .ok (.iload_n 1, 1) := dk_27 (dk_at dksX1_checkShare_0 7 rfl rfl)
theorem dX1_checkShare_8 : decode cX1_checkShare 8 = .ok (.i2l, 1) := dk_133 (dk_at dksX1_checkShare_0 8 rfl rfl)
theorem dX1_checkShare_9 : decode cX1_checkShare 9 = .ok (.lconst 1, 1) := dk_10 (dk_at dksX1_checkShare_0 9 rfl rfl)
theorem dX1_checkShare_10 : decode cX1_checkShare 10 = .ok (.ldc2_w 328, 3) := dk_20 1 72 (dk_at dksX1_checkShare_0 10 rfl rfl)
theorem dX1_checkShare_13 : decode cX1_checkShare 13 = .ok (.invokestatic 85, 3) := dk_184 0 85 (dk_at dksX1_checkShare_0 13 rfl rfl)
theorem dX1_checkShare_16 : decode cX1_checkShare 16 = .ok (.ifCond .eq 7, 3) := dk_153 0 7 (dk_at dksX1_checkShare_0 16 rfl rfl)
theorem dX1_checkShare_19 : decode cX1_checkShare 19 = .ok (.iconst 1, 1) := dk_4 (dk_at dksX1_checkShare_0 19 rfl rfl)
theorem dX1_checkShare_20 : decode cX1_checkShare 20 = .ok (.goto 4, 3) := dk_167 0 4 (dk_at dksX1_checkShare_0 20 rfl rfl)
theorem dX1_checkShare_23 : decode cX1_checkShare 23 = .ok (.iconst 0, 1) := dk_3 (dk_at dksX1_checkShare_0 23 rfl rfl)
theorem dX1_checkShare_24 : decode cX1_checkShare 24 = .ok (.invokestatic 185, 3) := dk_184 0 185 (dk_at dksX1_checkShare_1 0 rfl rfl)
theorem dX1_checkShare_27 : decode cX1_checkShare 27 = .ok (.return_, 1) := dk_177 (dk_at dksX1_checkShare_1 3 rfl rfl)
abbrev cX1_aliases : ByteArray := prog_1_method_56_code
def yX1_aliases : MethodName := ⟨RX1, "aliases", "(II)I"⟩
def dkwX1_aliases_1 : List UInt8 := [186, 1, 81, 0, 0, 184, 1, 31, 172]
abbrev dktX1_aliases_1 : List UInt8 := dkwX1_aliases_1 ++ []
def dkwX1_aliases_0 : List UInt8 := [42, 182, 0, 103, 78, 27, 28, 184, 1, 74, 45, 180, 0, 107, 182, 0, 126, 45, 27, 28]
abbrev dktX1_aliases_0 : List UInt8 := dkwX1_aliases_0 ++ dktX1_aliases_1
theorem dksX1_aliases_0 : cX1_aliases.data.toList.drop 0 = dktX1_aliases_0 := by decide +kernel
theorem dksX1_aliases_1 : cX1_aliases.data.toList.drop 20 = dktX1_aliases_1 := dk_seg dksX1_aliases_0 20 rfl rfl
theorem dX1_aliases_0 : decode cX1_aliases 0 = .ok (.aload_n 0, 1) := dk_42 (dk_at dksX1_aliases_0 0 rfl rfl)
theorem dX1_aliases_1 : decode cX1_aliases 1 = .ok (.invokevirtual 103, 3) := dk_182 0 103 (dk_at dksX1_aliases_0 1 rfl rfl)
theorem dX1_aliases_4 : decode cX1_aliases 4 = .ok (.astore_n 3, 1) := dk_78 (dk_at dksX1_aliases_0 4 rfl rfl)
theorem dX1_aliases_5 : decode cX1_aliases 5 = .ok (.iload_n 1, 1) := dk_27 (dk_at dksX1_aliases_0 5 rfl rfl)
theorem dX1_aliases_6 : decode cX1_aliases 6 = .ok (.iload_n 2, 1) := dk_28 (dk_at dksX1_aliases_0 6 rfl rfl)
theorem dX1_aliases_7 : decode cX1_aliases 7 = .ok (.invokestatic 330, 3) := dk_184 1 74 (dk_at dksX1_aliases_0 7 rfl rfl)
theorem dX1_aliases_10 : decode cX1_aliases 10 = .ok (.aload_n 3, 1) := dk_45 (dk_at dksX1_aliases_0 10 rfl rfl)
theorem dX1_aliases_11 : decode cX1_aliases 11 = .ok (.getfield 107, 3) := dk_180 0 107 (dk_at dksX1_aliases_0 11 rfl rfl)
theorem dX1_aliases_14 : decode cX1_aliases 14 = .ok (.invokevirtual 126, 3) := dk_182 0 126 (dk_at dksX1_aliases_0 14 rfl rfl)
theorem dX1_aliases_17 : decode cX1_aliases 17 = .ok (.aload_n 3, 1) := dk_45 (dk_at dksX1_aliases_0 17 rfl rfl)
theorem dX1_aliases_18 : decode cX1_aliases 18 = .ok (.iload_n 1, 1) := dk_27 (dk_at dksX1_aliases_0 18 rfl rfl)
theorem dX1_aliases_19 : decode cX1_aliases 19 = .ok (.iload_n 2, 1) := dk_28 (dk_at dksX1_aliases_0 19 rfl rfl)
theorem dX1_aliases_20 : decode cX1_aliases 20 = .ok (.invokedynamic 337, 5) := by decide +kernel
theorem dX1_aliases_25 : decode cX1_aliases 25 = .ok (.invokestatic 287, 3) := dk_184 1 31 (dk_at dksX1_aliases_1 5 rfl rfl)
theorem dX1_aliases_28 : decode cX1_aliases 28 = .ok (.ireturn, 1) := dk_172 (dk_at dksX1_aliases_1 8 rfl rfl)
abbrev cX1_lambda_aliases_3 : ByteArray := prog_1_method_96_code
def yX1_lambda_aliases_3 : MethodName := ⟨RX1, "lambda$aliases$3", "(LAcousticCamera$State;III)Z"⟩
def dkwX1_lambda_aliases_3_0 : List UInt8 := [42, 29, 27, 28, 182, 1, 77, 172]
abbrev dktX1_lambda_aliases_3_0 : List UInt8 := dkwX1_lambda_aliases_3_0 ++ []
theorem dksX1_lambda_aliases_3_0 : cX1_lambda_aliases_3.data.toList.drop 0 = dktX1_lambda_aliases_3_0 := by decide +kernel
theorem dX1_lambda_aliases_3_0 : decode cX1_lambda_aliases_3 0 = .ok (.aload_n 0, 1) := dk_42 (dk_at dksX1_lambda_aliases_3_0 0 rfl rfl)
theorem dX1_lambda_aliases_3_1 : decode cX1_lambda_aliases_3 1 = .ok (.iload_n 3, 1) := dk_29 (dk_at dksX1_lambda_aliases_3_0 1 rfl rfl)
theorem dX1_lambda_aliases_3_2 : decode cX1_lambda_aliases_3 2 = .ok (.iload_n 1, 1) := dk_27 (dk_at dksX1_lambda_aliases_3_0 2 rfl rfl)
theorem dX1_lambda_aliases_3_3 : decode cX1_lambda_aliases_3 3 = .ok (.iload_n 2, 1) := dk_28 (dk_at dksX1_lambda_aliases_3_0 3 rfl rfl)
theorem dX1_lambda_aliases_3_4 : decode cX1_lambda_aliases_3 4 = .ok (.invokevirtual 333, 3) := dk_182 1 77 (dk_at dksX1_lambda_aliases_3_0 4 rfl rfl)
theorem dX1_lambda_aliases_3_7 : decode cX1_lambda_aliases_3 7 = .ok (.ireturn, 1) := dk_172 (dk_at dksX1_lambda_aliases_3_0 7 rfl rfl)
abbrev cX1_blockPower : ByteArray := prog_1_method_58_code
def yX1_blockPower : MethodName := ⟨RX1, "blockPower", "(III)J"⟩
def dkwX1_blockPower_0 : List UInt8 := [42, 27, 182, 0, 137, 87, 42, 28, 29, 182, 1, 84, 42, 180, 0, 95, 27, 28, 29, 182, 1, 87, 173]
abbrev dktX1_blockPower_0 : List UInt8 := dkwX1_blockPower_0 ++ []
theorem dksX1_blockPower_0 : cX1_blockPower.data.toList.drop 0 = dktX1_blockPower_0 := by decide +kernel
theorem dX1_blockPower_0 : decode cX1_blockPower 0 = .ok (.aload_n 0, 1) := dk_42 (dk_at dksX1_blockPower_0 0 rfl rfl)
theorem dX1_blockPower_1 : decode cX1_blockPower 1 = .ok (.iload_n 1, 1) := dk_27 (dk_at dksX1_blockPower_0 1 rfl rfl)
theorem dX1_blockPower_2 : decode cX1_blockPower 2 = .ok (.invokevirtual 137, 3) := dk_182 0 137 (dk_at dksX1_blockPower_0 2 rfl rfl)
theorem dX1_blockPower_5 : decode cX1_blockPower 5 = .ok (.pop, 1) := dk_87 (dk_at dksX1_blockPower_0 5 rfl rfl)
theorem dX1_blockPower_6 : decode cX1_blockPower 6 = .ok (.aload_n 0, 1) := dk_42 (dk_at dksX1_blockPower_0 6 rfl rfl)
theorem dX1_blockPower_7 : decode cX1_blockPower 7 = .ok (.iload_n 2, 1) := dk_28 (dk_at dksX1_blockPower_0 7 rfl rfl)
theorem dX1_blockPower_8 : decode cX1_blockPower 8 = .ok (.iload_n 3, 1) := dk_29 (dk_at dksX1_blockPower_0 8 rfl rfl)
theorem dX1_blockPower_9 : decode cX1_blockPower 9 = .ok (.invokevirtual 340, 3) := dk_182 1 84 (dk_at dksX1_blockPower_0 9 rfl rfl)
theorem dX1_blockPower_12 : decode cX1_blockPower 12 = .ok (.aload_n 0, 1) := dk_42 (dk_at dksX1_blockPower_0 12 rfl rfl)
theorem dX1_blockPower_13 : decode cX1_blockPower 13 = .ok (.getfield 95, 3) := dk_180 0 95 (dk_at dksX1_blockPower_0 13 rfl rfl)
theorem dX1_blockPower_16 : decode cX1_blockPower 16 = .ok (.iload_n 1, 1) := dk_27 (dk_at dksX1_blockPower_0 16 rfl rfl)
theorem dX1_blockPower_17 : decode cX1_blockPower 17 = .ok (.iload_n 2, 1) := dk_28 (dk_at dksX1_blockPower_0 17 rfl rfl)
theorem dX1_blockPower_18 : decode cX1_blockPower 18 = .ok (.iload_n 3, 1) := dk_29 (dk_at dksX1_blockPower_0 18 rfl rfl)
theorem dX1_blockPower_19 : decode cX1_blockPower 19 = .ok (.invokevirtual 343, 3) := dk_182 1 87 (dk_at dksX1_blockPower_0 19 rfl rfl)
theorem dX1_blockPower_22 : decode cX1_blockPower 22 = .ok (.lreturn, 1) := dk_173 (dk_at dksX1_blockPower_0 22 rfl rfl)
abbrev cX1_checkBlock : ByteArray := prog_1_method_57_code
def yX1_checkBlock : MethodName := ⟨RX1, "checkBlock", "(II)V"⟩
def dkwX1_checkBlock_1 : List UInt8 := [184, 0, 85, 153, 0, 7, 4, 167, 0, 4, 3, 184, 0, 185, 177]
abbrev dktX1_checkBlock_1 : List UInt8 := dkwX1_checkBlock_1 ++ []
def dkwX1_checkBlock_0 : List UInt8 := [42, 27, 182, 0, 226, 153, 0, 27, 28, 133, 10, 42, 180, 0, 95, 180, 0, 107, 180, 0, 140, 133]
abbrev dktX1_checkBlock_0 : List UInt8 := dkwX1_checkBlock_0 ++ dktX1_checkBlock_1
theorem dksX1_checkBlock_0 : cX1_checkBlock.data.toList.drop 0 = dktX1_checkBlock_0 := by decide +kernel
theorem dksX1_checkBlock_1 : cX1_checkBlock.data.toList.drop 22 = dktX1_checkBlock_1 := dk_seg dksX1_checkBlock_0 22 rfl rfl
theorem dX1_checkBlock_0 : decode cX1_checkBlock 0 = .ok (.aload_n 0, 1) := dk_42 (dk_at dksX1_checkBlock_0 0 rfl rfl)
theorem dX1_checkBlock_1 : decode cX1_checkBlock 1 = .ok (.iload_n 1, 1) := dk_27 (dk_at dksX1_checkBlock_0 1 rfl rfl)
theorem dX1_checkBlock_2 : decode cX1_checkBlock 2 = .ok (.invokevirtual 226, 3) := dk_182 0 226 (dk_at dksX1_checkBlock_0 2 rfl rfl)
theorem dX1_checkBlock_5 : decode cX1_checkBlock 5 = .ok (.ifCond .eq 27, 3) := dk_153 0 27 (dk_at dksX1_checkBlock_0 5 rfl rfl)
theorem dX1_checkBlock_8 : decode cX1_checkBlock 8 = .ok (.iload_n 2, 1) := dk_28 (dk_at dksX1_checkBlock_0 8 rfl rfl)
theorem dX1_checkBlock_9 : decode cX1_checkBlock 9 = .ok (.i2l, 1) := dk_133 (dk_at dksX1_checkBlock_0 9 rfl rfl)
theorem dX1_checkBlock_10 : decode cX1_checkBlock 10 = .ok (.lconst 1, 1) := dk_10 (dk_at dksX1_checkBlock_0 10 rfl rfl)
theorem dX1_checkBlock_11 : decode cX1_checkBlock 11 = .ok (.aload_n 0, 1) := dk_42 (dk_at dksX1_checkBlock_0 11 rfl rfl)
theorem dX1_checkBlock_12 : decode cX1_checkBlock 12 = .ok (.getfield 95, 3) := dk_180 0 95 (dk_at dksX1_checkBlock_0 12 rfl rfl)
theorem dX1_checkBlock_15 : decode cX1_checkBlock 15 = .ok (.getfield 107, 3) := dk_180 0 107 (dk_at dksX1_checkBlock_0 15 rfl rfl)
theorem dX1_checkBlock_18 : decode cX1_checkBlock 18 = .ok (.getfield 140, 3) := dk_180 0 140 (dk_at dksX1_checkBlock_0 18 rfl rfl)
theorem dX1_checkBlock_21 : decode cX1_checkBlock 21 = .ok (.i2l, 1) := dk_133 (dk_at dksX1_checkBlock_0 21 rfl rfl)
theorem dX1_checkBlock_22 : decode cX1_checkBlock 22 = .ok (.invokestatic 85, 3) := dk_184 0 85 (dk_at dksX1_checkBlock_1 0 rfl rfl)
theorem dX1_checkBlock_25 : decode cX1_checkBlock 25 = .ok (.ifCond .eq 7, 3) := dk_153 0 7 (dk_at dksX1_checkBlock_1 3 rfl rfl)
theorem dX1_checkBlock_28 : decode cX1_checkBlock 28 = .ok (.iconst 1, 1) := dk_4 (dk_at dksX1_checkBlock_1 6 rfl rfl)
theorem dX1_checkBlock_29 : decode cX1_checkBlock 29 = .ok (.goto 4, 3) := dk_167 0 4 (dk_at dksX1_checkBlock_1 7 rfl rfl)
theorem dX1_checkBlock_32 : decode cX1_checkBlock 32 = .ok (.iconst 0, 1) := dk_3 (dk_at dksX1_checkBlock_1 10 rfl rfl)
theorem dX1_checkBlock_33 : decode cX1_checkBlock 33 = .ok (.invokestatic 185, 3) := dk_184 0 185 (dk_at dksX1_checkBlock_1 11 rfl rfl)
theorem dX1_checkBlock_36 : decode cX1_checkBlock 36 = .ok (.return_, 1) := dk_177 (dk_at dksX1_checkBlock_1 14 rfl rfl)
abbrev cX1_blockBest : ByteArray := prog_1_method_59_code
def yX1_blockBest : MethodName := ⟨RX1, "blockBest", "(II)I"⟩
def dkwX1_blockBest_0 : List UInt8 := [42, 182, 0, 103, 87, 42, 27, 28, 182, 1, 84, 42, 180, 0, 95, 27, 28, 182, 1, 91, 172]
abbrev dktX1_blockBest_0 : List UInt8 := dkwX1_blockBest_0 ++ []
theorem dksX1_blockBest_0 : cX1_blockBest.data.toList.drop 0 = dktX1_blockBest_0 := by decide +kernel
theorem dX1_blockBest_0 : decode cX1_blockBest 0 = .ok (.aload_n 0, 1) := dk_42 (dk_at dksX1_blockBest_0 0 rfl rfl)
theorem dX1_blockBest_1 : decode cX1_blockBest 1 = .ok (.invokevirtual 103, 3) := dk_182 0 103 (dk_at dksX1_blockBest_0 1 rfl rfl)
theorem dX1_blockBest_4 : decode cX1_blockBest 4 = .ok (.pop, 1) := dk_87 (dk_at dksX1_blockBest_0 4 rfl rfl)
theorem dX1_blockBest_5 : decode cX1_blockBest 5 = .ok (.aload_n 0, 1) := dk_42 (dk_at dksX1_blockBest_0 5 rfl rfl)
theorem dX1_blockBest_6 : decode cX1_blockBest 6 = .ok (.iload_n 1, 1) := dk_27 (dk_at dksX1_blockBest_0 6 rfl rfl)
theorem dX1_blockBest_7 : decode cX1_blockBest 7 = .ok (.iload_n 2, 1) := dk_28 (dk_at dksX1_blockBest_0 7 rfl rfl)
theorem dX1_blockBest_8 : decode cX1_blockBest 8 = .ok (.invokevirtual 340, 3) := dk_182 1 84 (dk_at dksX1_blockBest_0 8 rfl rfl)
theorem dX1_blockBest_11 : decode cX1_blockBest 11 = .ok (.aload_n 0, 1) := dk_42 (dk_at dksX1_blockBest_0 11 rfl rfl)
theorem dX1_blockBest_12 : decode cX1_blockBest 12 = .ok (.getfield 95, 3) := dk_180 0 95 (dk_at dksX1_blockBest_0 12 rfl rfl)
theorem dX1_blockBest_15 : decode cX1_blockBest 15 = .ok (.iload_n 1, 1) := dk_27 (dk_at dksX1_blockBest_0 15 rfl rfl)
theorem dX1_blockBest_16 : decode cX1_blockBest 16 = .ok (.iload_n 2, 1) := dk_28 (dk_at dksX1_blockBest_0 16 rfl rfl)
theorem dX1_blockBest_17 : decode cX1_blockBest 17 = .ok (.invokevirtual 347, 3) := dk_182 1 91 (dk_at dksX1_blockBest_0 17 rfl rfl)
theorem dX1_blockBest_20 : decode cX1_blockBest 20 = .ok (.ireturn, 1) := dk_172 (dk_at dksX1_blockBest_0 20 rfl rfl)
abbrev cX1_path : ByteArray := prog_1_method_60_code
def yX1_path : MethodName := ⟨RX1, "path", "(I)I"⟩
def dkwX1_path_4 : List UInt8 := [167, 255, 204, 28, 172]
abbrev dktX1_path_4 : List UInt8 := dkwX1_path_4 ++ []
def dkwX1_path_3 : List UInt8 := [28, 21, 5, 29, 159, 0, 7, 4, 167, 0, 4, 3, 96, 61, 21, 5, 62, 21, 4, 27, 96, 54, 4]
abbrev dktX1_path_3 : List UInt8 := dkwX1_path_3 ++ dktX1_path_4
def dkwX1_path_2 : List UInt8 := [180, 0, 95, 180, 0, 107, 180, 0, 140, 163, 0, 41, 42, 180, 0, 95, 21, 4, 27, 182, 1, 91, 54, 5]
abbrev dktX1_path_2 : List UInt8 := dkwX1_path_2 ++ dktX1_path_3
def dkwX1_path_1 : List UInt8 := [184, 0, 185, 3, 61, 42, 180, 0, 95, 3, 27, 182, 1, 91, 62, 27, 54, 4, 21, 4, 27, 96, 42]
abbrev dktX1_path_1 : List UInt8 := dkwX1_path_1 ++ dktX1_path_2
def dkwX1_path_0 : List UInt8 := [42, 182, 0, 103, 87, 27, 133, 20, 1, 94, 42, 180, 0, 95, 180, 0, 107, 180, 0, 140, 133, 184, 0, 85]
abbrev dktX1_path_0 : List UInt8 := dkwX1_path_0 ++ dktX1_path_1
theorem dksX1_path_0 : cX1_path.data.toList.drop 0 = dktX1_path_0 := by decide +kernel
theorem dksX1_path_1 : cX1_path.data.toList.drop 24 = dktX1_path_1 := dk_seg dksX1_path_0 24 rfl rfl
theorem dksX1_path_2 : cX1_path.data.toList.drop 47 = dktX1_path_2 := dk_seg dksX1_path_1 23 rfl rfl
theorem dksX1_path_3 : cX1_path.data.toList.drop 71 = dktX1_path_3 := dk_seg dksX1_path_2 24 rfl rfl
theorem dksX1_path_4 : cX1_path.data.toList.drop 94 = dktX1_path_4 := dk_seg dksX1_path_3 23 rfl rfl
theorem dX1_path_0 : decode cX1_path 0 = .ok (.aload_n 0, 1) := dk_42 (dk_at dksX1_path_0 0 rfl rfl)
theorem dX1_path_1 : decode cX1_path 1 = .ok (.invokevirtual 103, 3) := dk_182 0 103 (dk_at dksX1_path_0 1 rfl rfl)
theorem dX1_path_4 : decode cX1_path 4 = .ok (.pop, 1) := dk_87 (dk_at dksX1_path_0 4 rfl rfl)
theorem dX1_path_5 : decode cX1_path 5 = .ok (.iload_n 1, 1) := dk_27 (dk_at dksX1_path_0 5 rfl rfl)
theorem dX1_path_6 : decode cX1_path 6 = .ok (.i2l, 1) := dk_133 (dk_at dksX1_path_0 6 rfl rfl)
theorem dX1_path_7 : decode cX1_path 7 = .ok (.ldc2_w 350, 3) := dk_20 1 94 (dk_at dksX1_path_0 7 rfl rfl)
theorem dX1_path_10 : decode cX1_path 10 = .ok (.aload_n 0, 1) := dk_42 (dk_at dksX1_path_0 10 rfl rfl)
theorem dX1_path_11 : decode cX1_path 11 = .ok (.getfield 95, 3) := dk_180 0 95 (dk_at dksX1_path_0 11 rfl rfl)
theorem dX1_path_14 : decode cX1_path 14 = .ok (.getfield 107, 3) := dk_180 0 107 (dk_at dksX1_path_0 14 rfl rfl)
theorem dX1_path_17 : decode cX1_path 17 = .ok (.getfield 140, 3) := dk_180 0 140 (dk_at dksX1_path_0 17 rfl rfl)
theorem dX1_path_20 : decode cX1_path 20 = .ok (.i2l, 1) := dk_133 (dk_at dksX1_path_0 20 rfl rfl)
theorem dX1_path_21 : decode cX1_path 21 = .ok (.invokestatic 85, 3) := dk_184 0 85 (dk_at dksX1_path_0 21 rfl rfl)
theorem dX1_path_24 : decode cX1_path 24 = .ok (.invokestatic 185, 3) := dk_184 0 185 (dk_at dksX1_path_1 0 rfl rfl)
theorem dX1_path_27 : decode cX1_path 27 = .ok (.iconst 0, 1) := dk_3 (dk_at dksX1_path_1 3 rfl rfl)
theorem dX1_path_28 : decode cX1_path 28 = .ok (.istore_n 2, 1) := dk_61 (dk_at dksX1_path_1 4 rfl rfl)
theorem dX1_path_29 : decode cX1_path 29 = .ok (.aload_n 0, 1) := dk_42 (dk_at dksX1_path_1 5 rfl rfl)
theorem dX1_path_30 : decode cX1_path 30 = .ok (.getfield 95, 3) := dk_180 0 95 (dk_at dksX1_path_1 6 rfl rfl)
theorem dX1_path_33 : decode cX1_path 33 = .ok (.iconst 0, 1) := dk_3 (dk_at dksX1_path_1 9 rfl rfl)
theorem dX1_path_34 : decode cX1_path 34 = .ok (.iload_n 1, 1) := dk_27 (dk_at dksX1_path_1 10 rfl rfl)
theorem dX1_path_35 : decode cX1_path 35 = .ok (.invokevirtual 347, 3) := dk_182 1 91 (dk_at dksX1_path_1 11 rfl rfl)
theorem dX1_path_38 : decode cX1_path 38 = .ok (.istore_n 3, 1) := dk_62 (dk_at dksX1_path_1 14 rfl rfl)
theorem dX1_path_39 : decode cX1_path 39 = .ok (.iload_n 1, 1) := dk_27 (dk_at dksX1_path_1 15 rfl rfl)
theorem dX1_path_40 : decode cX1_path 40 = .ok (.istore 4, 2) := dk_54 4 (dk_at dksX1_path_1 16 rfl rfl)
theorem dX1_path_42 : decode cX1_path 42 = .ok (.iload 4, 2) := dk_21 4 (dk_at dksX1_path_1 18 rfl rfl)
theorem dX1_path_44 : decode cX1_path 44 = .ok (.iload_n 1, 1) := dk_27 (dk_at dksX1_path_1 20 rfl rfl)
theorem dX1_path_45 : decode cX1_path 45 = .ok (.iadd, 1) := dk_96 (dk_at dksX1_path_1 21 rfl rfl)
theorem dX1_path_46 : decode cX1_path 46 = .ok (.aload_n 0, 1) := dk_42 (dk_at dksX1_path_1 22 rfl rfl)
theorem dX1_path_47 : decode cX1_path 47 = .ok (.getfield 95, 3) := dk_180 0 95 (dk_at dksX1_path_2 0 rfl rfl)
theorem dX1_path_50 : decode cX1_path 50 = .ok (.getfield 107, 3) := dk_180 0 107 (dk_at dksX1_path_2 3 rfl rfl)
theorem dX1_path_53 : decode cX1_path 53 = .ok (.getfield 140, 3) := dk_180 0 140 (dk_at dksX1_path_2 6 rfl rfl)
theorem dX1_path_56 : decode cX1_path 56 = .ok (.if_icmp .gt 41, 3) := dk_163 0 41 (dk_at dksX1_path_2 9 rfl rfl)
theorem dX1_path_59 : decode cX1_path 59 = .ok (.aload_n 0, 1) := dk_42 (dk_at dksX1_path_2 12 rfl rfl)
theorem dX1_path_60 : decode cX1_path 60 = .ok (.getfield 95, 3) := dk_180 0 95 (dk_at dksX1_path_2 13 rfl rfl)
theorem dX1_path_63 : decode cX1_path 63 = .ok (.iload 4, 2) := dk_21 4 (dk_at dksX1_path_2 16 rfl rfl)
theorem dX1_path_65 : decode cX1_path 65 = .ok (.iload_n 1, 1) := dk_27 (dk_at dksX1_path_2 18 rfl rfl)
theorem dX1_path_66 : decode cX1_path 66 = .ok (.invokevirtual 347, 3) := dk_182 1 91 (dk_at dksX1_path_2 19 rfl rfl)
theorem dX1_path_69 : decode cX1_path 69 = .ok (.istore 5, 2) := dk_54 5 (dk_at dksX1_path_2 22 rfl rfl)
theorem dX1_path_71 : decode cX1_path 71 = .ok (.iload_n 2, 1) := dk_28 (dk_at dksX1_path_3 0 rfl rfl)
theorem dX1_path_72 : decode cX1_path 72 = .ok (.iload 5, 2) := dk_21 5 (dk_at dksX1_path_3 1 rfl rfl)
theorem dX1_path_74 : decode cX1_path 74 = .ok (.iload_n 3, 1) := dk_29 (dk_at dksX1_path_3 3 rfl rfl)
theorem dX1_path_75 : decode cX1_path 75 = .ok (.if_icmp .eq 7, 3) := dk_159 0 7 (dk_at dksX1_path_3 4 rfl rfl)
theorem dX1_path_78 : decode cX1_path 78 = .ok (.iconst 1, 1) := dk_4 (dk_at dksX1_path_3 7 rfl rfl)
theorem dX1_path_79 : decode cX1_path 79 = .ok (.goto 4, 3) := dk_167 0 4 (dk_at dksX1_path_3 8 rfl rfl)
theorem dX1_path_82 : decode cX1_path 82 = .ok (.iconst 0, 1) := dk_3 (dk_at dksX1_path_3 11 rfl rfl)
theorem dX1_path_83 : decode cX1_path 83 = .ok (.iadd, 1) := dk_96 (dk_at dksX1_path_3 12 rfl rfl)
theorem dX1_path_84 : decode cX1_path 84 = .ok (.istore_n 2, 1) := dk_61 (dk_at dksX1_path_3 13 rfl rfl)
theorem dX1_path_85 : decode cX1_path 85 = .ok (.iload 5, 2) := dk_21 5 (dk_at dksX1_path_3 14 rfl rfl)
theorem dX1_path_87 : decode cX1_path 87 = .ok (.istore_n 3, 1) := dk_62 (dk_at dksX1_path_3 16 rfl rfl)
theorem dX1_path_88 : decode cX1_path 88 = .ok (.iload 4, 2) := dk_21 4 (dk_at dksX1_path_3 17 rfl rfl)
theorem dX1_path_90 : decode cX1_path 90 = .ok (.iload_n 1, 1) := dk_27 (dk_at dksX1_path_3 19 rfl rfl)
theorem dX1_path_91 : decode cX1_path 91 = .ok (.iadd, 1) := dk_96 (dk_at dksX1_path_3 20 rfl rfl)
theorem dX1_path_92 : decode cX1_path 92 = .ok (.istore 4, 2) := dk_54 4 (dk_at dksX1_path_3 21 rfl rfl)
theorem dX1_path_94 : decode cX1_path 94 = .ok (.goto (-52), 3) := dk_167 255 204 (dk_at dksX1_path_4 0 rfl rfl)
theorem dX1_path_97 : decode cX1_path 97 = .ok (.iload_n 2, 1) := dk_28 (dk_at dksX1_path_4 3 rfl rfl)
theorem dX1_path_98 : decode cX1_path 98 = .ok (.ireturn, 1) := dk_172 (dk_at dksX1_path_4 4 rfl rfl)
abbrev cX1_trackScore : ByteArray := prog_1_method_62_code
def yX1_trackScore : MethodName := ⟨RX1, "trackScore", "(I)J"⟩
def dkwX1_trackScore_1 : List UInt8 := [186, 1, 104, 0, 0, 184, 1, 56, 47, 173]
abbrev dktX1_trackScore_1 : List UInt8 := dkwX1_trackScore_1 ++ []
def dkwX1_trackScore_0 : List UInt8 := [42, 27, 182, 1, 96, 42, 180, 0, 95, 27, 182, 1, 100, 3, 50, 77, 44, 44, 190, 44]
abbrev dktX1_trackScore_0 : List UInt8 := dkwX1_trackScore_0 ++ dktX1_trackScore_1
theorem dksX1_trackScore_0 : cX1_trackScore.data.toList.drop 0 = dktX1_trackScore_0 := by decide +kernel
theorem dksX1_trackScore_1 : cX1_trackScore.data.toList.drop 20 = dktX1_trackScore_1 := dk_seg dksX1_trackScore_0 20 rfl rfl
theorem dX1_trackScore_0 : decode cX1_trackScore 0 = .ok (.aload_n 0, 1) := dk_42 (dk_at dksX1_trackScore_0 0 rfl rfl)
theorem dX1_trackScore_1 : decode cX1_trackScore 1 = .ok (.iload_n 1, 1) := dk_27 (dk_at dksX1_trackScore_0 1 rfl rfl)
theorem dX1_trackScore_2 : decode cX1_trackScore 2 = .ok (.invokevirtual 352, 3) := dk_182 1 96 (dk_at dksX1_trackScore_0 2 rfl rfl)
theorem dX1_trackScore_5 : decode cX1_trackScore 5 = .ok (.aload_n 0, 1) := dk_42 (dk_at dksX1_trackScore_0 5 rfl rfl)
theorem dX1_trackScore_6 : decode cX1_trackScore 6 = .ok (.getfield 95, 3) := dk_180 0 95 (dk_at dksX1_trackScore_0 6 rfl rfl)
theorem dX1_trackScore_9 : decode cX1_trackScore 9 = .ok (.iload_n 1, 1) := dk_27 (dk_at dksX1_trackScore_0 9 rfl rfl)
theorem dX1_trackScore_10 : decode cX1_trackScore 10 = .ok (.invokevirtual 356, 3) := dk_182 1 100 (dk_at dksX1_trackScore_0 10 rfl rfl)
theorem dX1_trackScore_13 : decode cX1_trackScore 13 = .ok (.iconst 0, 1) := dk_3 (dk_at dksX1_trackScore_0 13 rfl rfl)
theorem dX1_trackScore_14 : decode cX1_trackScore 14 = .ok (.aaload, 1) := dk_50 (dk_at dksX1_trackScore_0 14 rfl rfl)
theorem dX1_trackScore_15 : decode cX1_trackScore 15 = .ok (.astore_n 2, 1) := dk_77 (dk_at dksX1_trackScore_0 15 rfl rfl)
theorem dX1_trackScore_16 : decode cX1_trackScore 16 = .ok (.aload_n 2, 1) := dk_44 (dk_at dksX1_trackScore_0 16 rfl rfl)
theorem dX1_trackScore_17 : decode cX1_trackScore 17 = .ok (.aload_n 2, 1) := dk_44 (dk_at dksX1_trackScore_0 17 rfl rfl)
theorem dX1_trackScore_18 : decode cX1_trackScore 18 = .ok (.arraylength, 1) := dk_190 (dk_at dksX1_trackScore_0 18 rfl rfl)
theorem dX1_trackScore_19 : decode cX1_trackScore 19 = .ok (.aload_n 2, 1) := dk_44 (dk_at dksX1_trackScore_0 19 rfl rfl)
theorem dX1_trackScore_20 : decode cX1_trackScore 20 = .ok (.invokedynamic 360, 5) := by decide +kernel
theorem dX1_trackScore_25 : decode cX1_trackScore 25 = .ok (.invokestatic 312, 3) := dk_184 1 56 (dk_at dksX1_trackScore_1 5 rfl rfl)
theorem dX1_trackScore_28 : decode cX1_trackScore 28 = .ok (.laload, 1) := dk_47 (dk_at dksX1_trackScore_1 8 rfl rfl)
theorem dX1_trackScore_29 : decode cX1_trackScore 29 = .ok (.lreturn, 1) := dk_173 (dk_at dksX1_trackScore_1 9 rfl rfl)
abbrev cX1_checkLength : ByteArray := prog_1_method_61_code
def yX1_checkLength : MethodName := ⟨RX1, "checkLength", "(I)V"⟩
def dkwX1_checkLength_0 : List UInt8 := [27, 133, 20, 1, 94, 42, 182, 0, 103, 180, 0, 107, 180, 0, 140, 133, 184, 0, 85, 184, 0, 185, 177]
abbrev dktX1_checkLength_0 : List UInt8 := dkwX1_checkLength_0 ++ []
theorem dksX1_checkLength_0 : cX1_checkLength.data.toList.drop 0 = dktX1_checkLength_0 := by decide +kernel
theorem dX1_checkLength_0 : decode cX1_checkLength 0 = .ok (.iload_n 1, 1) := dk_27 (dk_at dksX1_checkLength_0 0 rfl rfl)
theorem dX1_checkLength_1 : decode cX1_checkLength 1 = .ok (.i2l, 1) := dk_133 (dk_at dksX1_checkLength_0 1 rfl rfl)
theorem dX1_checkLength_2 : decode cX1_checkLength 2 = .ok (.ldc2_w 350, 3) := dk_20 1 94 (dk_at dksX1_checkLength_0 2 rfl rfl)
theorem dX1_checkLength_5 : decode cX1_checkLength 5 = .ok (.aload_n 0, 1) := dk_42 (dk_at dksX1_checkLength_0 5 rfl rfl)
theorem dX1_checkLength_6 : decode cX1_checkLength 6 = .ok (.invokevirtual 103, 3) := dk_182 0 103 (dk_at dksX1_checkLength_0 6 rfl rfl)
theorem dX1_checkLength_9 : decode cX1_checkLength 9 = .ok (.getfield 107, 3) := dk_180 0 107 (dk_at dksX1_checkLength_0 9 rfl rfl)
theorem dX1_checkLength_12 : decode cX1_checkLength 12 = .ok (.getfield 140, 3) := dk_180 0 140 (dk_at dksX1_checkLength_0 12 rfl rfl)
theorem dX1_checkLength_15 : decode cX1_checkLength 15 = .ok (.i2l, 1) := dk_133 (dk_at dksX1_checkLength_0 15 rfl rfl)
theorem dX1_checkLength_16 : decode cX1_checkLength 16 = .ok (.invokestatic 85, 3) := dk_184 0 85 (dk_at dksX1_checkLength_0 16 rfl rfl)
theorem dX1_checkLength_19 : decode cX1_checkLength 19 = .ok (.invokestatic 185, 3) := dk_184 0 185 (dk_at dksX1_checkLength_0 19 rfl rfl)
theorem dX1_checkLength_22 : decode cX1_checkLength 22 = .ok (.return_, 1) := dk_177 (dk_at dksX1_checkLength_0 22 rfl rfl)
abbrev cX1_lambda_trackScore_4 : ByteArray := prog_1_method_95_code
def yX1_lambda_trackScore_4 : MethodName := ⟨RX1, "lambda$trackScore$4", "([JI)J"⟩
def dkwX1_lambda_trackScore_4_0 : List UInt8 := [42, 27, 47, 173]
abbrev dktX1_lambda_trackScore_4_0 : List UInt8 := dkwX1_lambda_trackScore_4_0 ++ []
theorem dksX1_lambda_trackScore_4_0 : cX1_lambda_trackScore_4.data.toList.drop 0 = dktX1_lambda_trackScore_4_0 := by decide +kernel
theorem dX1_lambda_trackScore_4_0 : decode cX1_lambda_trackScore_4 0 = .ok (.aload_n 0, 1) := dk_42 (dk_at dksX1_lambda_trackScore_4_0 0 rfl rfl)
theorem dX1_lambda_trackScore_4_1 : decode cX1_lambda_trackScore_4 1 = .ok (.iload_n 1, 1) := dk_27 (dk_at dksX1_lambda_trackScore_4_0 1 rfl rfl)
theorem dX1_lambda_trackScore_4_2 : decode cX1_lambda_trackScore_4 2 = .ok (.laload, 1) := dk_47 (dk_at dksX1_lambda_trackScore_4_0 2 rfl rfl)
theorem dX1_lambda_trackScore_4_3 : decode cX1_lambda_trackScore_4 3 = .ok (.lreturn, 1) := dk_173 (dk_at dksX1_lambda_trackScore_4_0 3 rfl rfl)
abbrev cX1_trackCell : ByteArray := prog_1_method_63_code
def yX1_trackCell : MethodName := ⟨RX1, "trackCell", "(II)I"⟩
def dkwX1_trackCell_3 : List UInt8 := [132, 5, 1, 167, 255, 232, 21, 4, 172]
abbrev dktX1_trackCell_3 : List UInt8 := dkwX1_trackCell_3 ++ []
def dkwX1_trackCell_2 : List UInt8 := [54, 5, 21, 5, 28, 163, 0, 24, 42, 180, 0, 95, 45, 21, 5, 50, 21, 4, 182, 1, 110, 54, 4]
abbrev dktX1_trackCell_2 : List UInt8 := dkwX1_trackCell_2 ++ dktX1_trackCell_3
def dkwX1_trackCell_1 : List UInt8 := [180, 0, 95, 27, 182, 1, 100, 78, 45, 3, 50, 190, 45, 186, 1, 107, 0, 0, 184, 1, 56, 54, 4, 4]
abbrev dktX1_trackCell_1 : List UInt8 := dkwX1_trackCell_1 ++ dktX1_trackCell_2
def dkwX1_trackCell_0 : List UInt8 := [42, 27, 182, 1, 96, 28, 42, 180, 0, 95, 180, 0, 107, 180, 0, 140, 27, 108, 184, 0, 122, 42]
abbrev dktX1_trackCell_0 : List UInt8 := dkwX1_trackCell_0 ++ dktX1_trackCell_1
theorem dksX1_trackCell_0 : cX1_trackCell.data.toList.drop 0 = dktX1_trackCell_0 := by decide +kernel
theorem dksX1_trackCell_1 : cX1_trackCell.data.toList.drop 22 = dktX1_trackCell_1 := dk_seg dksX1_trackCell_0 22 rfl rfl
theorem dksX1_trackCell_2 : cX1_trackCell.data.toList.drop 46 = dktX1_trackCell_2 := dk_seg dksX1_trackCell_1 24 rfl rfl
theorem dksX1_trackCell_3 : cX1_trackCell.data.toList.drop 69 = dktX1_trackCell_3 := dk_seg dksX1_trackCell_2 23 rfl rfl
theorem dX1_trackCell_0 : decode cX1_trackCell 0 = .ok (.aload_n 0, 1) := dk_42 (dk_at dksX1_trackCell_0 0 rfl rfl)
theorem dX1_trackCell_1 : decode cX1_trackCell 1 = .ok (.iload_n 1, 1) := dk_27 (dk_at dksX1_trackCell_0 1 rfl rfl)
theorem dX1_trackCell_2 : decode cX1_trackCell 2 = .ok (.invokevirtual 352, 3) := dk_182 1 96 (dk_at dksX1_trackCell_0 2 rfl rfl)
theorem dX1_trackCell_5 : decode cX1_trackCell 5 = .ok (.iload_n 2, 1) := dk_28 (dk_at dksX1_trackCell_0 5 rfl rfl)
theorem dX1_trackCell_6 : decode cX1_trackCell 6 = .ok (.aload_n 0, 1) := dk_42 (dk_at dksX1_trackCell_0 6 rfl rfl)
theorem dX1_trackCell_7 : decode cX1_trackCell 7 = .ok (.getfield 95, 3) := dk_180 0 95 (dk_at dksX1_trackCell_0 7 rfl rfl)
theorem dX1_trackCell_10 : decode cX1_trackCell 10 = .ok (.getfield 107, 3) := dk_180 0 107 (dk_at dksX1_trackCell_0 10 rfl rfl)
theorem dX1_trackCell_13 : decode cX1_trackCell 13 = .ok (.getfield 140, 3) := dk_180 0 140 (dk_at dksX1_trackCell_0 13 rfl rfl)
theorem dX1_trackCell_16 : decode cX1_trackCell 16 = .ok (.iload_n 1, 1) := dk_27 (dk_at dksX1_trackCell_0 16 rfl rfl)
theorem dX1_trackCell_17 : decode cX1_trackCell 17 = .ok (.idiv, 1) := dk_108 (dk_at dksX1_trackCell_0 17 rfl rfl)
theorem dX1_trackCell_18 : decode cX1_trackCell 18 = .ok (.invokestatic 122, 3) := dk_184 0 122 (dk_at dksX1_trackCell_0 18 rfl rfl)
theorem dX1_trackCell_21 : decode cX1_trackCell 21 = .ok (.aload_n 0, 1) := dk_42 (dk_at dksX1_trackCell_0 21 rfl rfl)
theorem dX1_trackCell_22 : decode cX1_trackCell 22 = .ok (.getfield 95, 3) := dk_180 0 95 (dk_at dksX1_trackCell_1 0 rfl rfl)
theorem dX1_trackCell_25 : decode cX1_trackCell 25 = .ok (.iload_n 1, 1) := dk_27 (dk_at dksX1_trackCell_1 3 rfl rfl)
theorem dX1_trackCell_26 : decode cX1_trackCell 26 = .ok (.invokevirtual 356, 3) := dk_182 1 100 (dk_at dksX1_trackCell_1 4 rfl rfl)
theorem dX1_trackCell_29 : decode cX1_trackCell 29 = .ok (.astore_n 3, 1) := dk_78 (dk_at dksX1_trackCell_1 7 rfl rfl)
theorem dX1_trackCell_30 : decode cX1_trackCell 30 = .ok (.aload_n 3, 1) := dk_45 (dk_at dksX1_trackCell_1 8 rfl rfl)
theorem dX1_trackCell_31 : decode cX1_trackCell 31 = .ok (.iconst 0, 1) := dk_3 (dk_at dksX1_trackCell_1 9 rfl rfl)
theorem dX1_trackCell_32 : decode cX1_trackCell 32 = .ok (.aaload, 1) := dk_50 (dk_at dksX1_trackCell_1 10 rfl rfl)
theorem dX1_trackCell_33 : decode cX1_trackCell 33 = .ok (.arraylength, 1) := dk_190 (dk_at dksX1_trackCell_1 11 rfl rfl)
theorem dX1_trackCell_34 : decode cX1_trackCell 34 = .ok (.aload_n 3, 1) := dk_45 (dk_at dksX1_trackCell_1 12 rfl rfl)
theorem dX1_trackCell_35 : decode cX1_trackCell 35 = .ok (.invokedynamic 363, 5) := by decide +kernel
theorem dX1_trackCell_40 : decode cX1_trackCell 40 = .ok (.invokestatic 312, 3) := dk_184 1 56 (dk_at dksX1_trackCell_1 18 rfl rfl)
theorem dX1_trackCell_43 : decode cX1_trackCell 43 = .ok (.istore 4, 2) := dk_54 4 (dk_at dksX1_trackCell_1 21 rfl rfl)
theorem dX1_trackCell_45 : decode cX1_trackCell 45 = .ok (.iconst 1, 1) := dk_4 (dk_at dksX1_trackCell_1 23 rfl rfl)
theorem dX1_trackCell_46 : decode cX1_trackCell 46 = .ok (.istore 5, 2) := dk_54 5 (dk_at dksX1_trackCell_2 0 rfl rfl)
theorem dX1_trackCell_48 : decode cX1_trackCell 48 = .ok (.iload 5, 2) := dk_21 5 (dk_at dksX1_trackCell_2 2 rfl rfl)
theorem dX1_trackCell_50 : decode cX1_trackCell 50 = .ok (.iload_n 2, 1) := dk_28 (dk_at dksX1_trackCell_2 4 rfl rfl)
theorem dX1_trackCell_51 : decode cX1_trackCell 51 = .ok (.if_icmp .gt 24, 3) := dk_163 0 24 (dk_at dksX1_trackCell_2 5 rfl rfl)
theorem dX1_trackCell_54 : decode cX1_trackCell 54 = .ok (.aload_n 0, 1) := dk_42 (dk_at dksX1_trackCell_2 8 rfl rfl)
theorem dX1_trackCell_55 : decode cX1_trackCell 55 = .ok (.getfield 95, 3) := dk_180 0 95 (dk_at dksX1_trackCell_2 9 rfl rfl)
theorem dX1_trackCell_58 : decode cX1_trackCell 58 = .ok (.aload_n 3, 1) := dk_45 (dk_at dksX1_trackCell_2 12 rfl rfl)
theorem dX1_trackCell_59 : decode cX1_trackCell 59 = .ok (.iload 5, 2) := dk_21 5 (dk_at dksX1_trackCell_2 13 rfl rfl)
theorem dX1_trackCell_61 : decode cX1_trackCell 61 = .ok (.aaload, 1) := dk_50 (dk_at dksX1_trackCell_2 15 rfl rfl)
theorem dX1_trackCell_62 : decode cX1_trackCell 62 = .ok (.iload 4, 2) := dk_21 4 (dk_at dksX1_trackCell_2 16 rfl rfl)
theorem dX1_trackCell_64 : decode cX1_trackCell 64 = .ok (.invokevirtual 366, 3) := dk_182 1 110 (dk_at dksX1_trackCell_2 18 rfl rfl)
theorem dX1_trackCell_67 : decode cX1_trackCell 67 = .ok (.istore 4, 2) := dk_54 4 (dk_at dksX1_trackCell_2 21 rfl rfl)
theorem dX1_trackCell_69 : decode cX1_trackCell 69 = .ok (.iinc 5 1, 3) := dk_132 5 1 (dk_at dksX1_trackCell_3 0 rfl rfl)
theorem dX1_trackCell_72 : decode cX1_trackCell 72 = .ok (.goto (-24), 3) := dk_167 255 232 (dk_at dksX1_trackCell_3 3 rfl rfl)
theorem dX1_trackCell_75 : decode cX1_trackCell 75 = .ok (.iload 4, 2) := dk_21 4 (dk_at dksX1_trackCell_3 6 rfl rfl)
theorem dX1_trackCell_77 : decode cX1_trackCell 77 = .ok (.ireturn, 1) := dk_172 (dk_at dksX1_trackCell_3 8 rfl rfl)
abbrev cX1_lambda_trackCell_5 : ByteArray := prog_1_method_94_code
def yX1_lambda_trackCell_5 : MethodName := ⟨RX1, "lambda$trackCell$5", "([[JI)J"⟩
def dkwX1_lambda_trackCell_5_0 : List UInt8 := [42, 3, 50, 27, 47, 173]
abbrev dktX1_lambda_trackCell_5_0 : List UInt8 := dkwX1_lambda_trackCell_5_0 ++ []
theorem dksX1_lambda_trackCell_5_0 : cX1_lambda_trackCell_5.data.toList.drop 0 = dktX1_lambda_trackCell_5_0 := by decide +kernel
theorem dX1_lambda_trackCell_5_0 : decode cX1_lambda_trackCell_5 0 = .ok (.aload_n 0, 1) := dk_42 (dk_at dksX1_lambda_trackCell_5_0 0 rfl rfl)
theorem dX1_lambda_trackCell_5_1 : decode cX1_lambda_trackCell_5 1 = .ok (.iconst 0, 1) := dk_3 (dk_at dksX1_lambda_trackCell_5_0 1 rfl rfl)
theorem dX1_lambda_trackCell_5_2 : decode cX1_lambda_trackCell_5 2 = .ok (.aaload, 1) := dk_50 (dk_at dksX1_lambda_trackCell_5_0 2 rfl rfl)
theorem dX1_lambda_trackCell_5_3 : decode cX1_lambda_trackCell_5 3 = .ok (.iload_n 1, 1) := dk_27 (dk_at dksX1_lambda_trackCell_5_0 3 rfl rfl)
theorem dX1_lambda_trackCell_5_4 : decode cX1_lambda_trackCell_5 4 = .ok (.laload, 1) := dk_47 (dk_at dksX1_lambda_trackCell_5_0 4 rfl rfl)
theorem dX1_lambda_trackCell_5_5 : decode cX1_lambda_trackCell_5 5 = .ok (.lreturn, 1) := dk_173 (dk_at dksX1_lambda_trackCell_5_0 5 rfl rfl)
abbrev cX1_movingPower : ByteArray := prog_1_method_64_code
def yX1_movingPower : MethodName := ⟨RX1, "movingPower", "(III)J"⟩
def dkwX1_movingPower_2 : List UInt8 := [27, 28, 29, 182, 1, 117, 173]
abbrev dktX1_movingPower_2 : List UInt8 := dkwX1_movingPower_2 ++ []
def dkwX1_movingPower_1 : List UInt8 := [20, 1, 113, 20, 1, 115, 184, 0, 85, 153, 0, 7, 4, 167, 0, 4, 3, 184, 0, 185, 42, 180, 0, 95]
abbrev dktX1_movingPower_1 : List UInt8 := dkwX1_movingPower_1 ++ dktX1_movingPower_2
def dkwX1_movingPower_0 : List UInt8 := [42, 27, 182, 0, 137, 87, 28, 133, 20, 1, 113, 20, 1, 115, 184, 0, 85, 153, 0, 21, 29, 133]
abbrev dktX1_movingPower_0 : List UInt8 := dkwX1_movingPower_0 ++ dktX1_movingPower_1
theorem dksX1_movingPower_0 : cX1_movingPower.data.toList.drop 0 = dktX1_movingPower_0 := by decide +kernel
theorem dksX1_movingPower_1 : cX1_movingPower.data.toList.drop 22 = dktX1_movingPower_1 := dk_seg dksX1_movingPower_0 22 rfl rfl
theorem dksX1_movingPower_2 : cX1_movingPower.data.toList.drop 46 = dktX1_movingPower_2 := dk_seg dksX1_movingPower_1 24 rfl rfl
theorem dX1_movingPower_0 : decode cX1_movingPower 0 = .ok (.aload_n 0, 1) := dk_42 (dk_at dksX1_movingPower_0 0 rfl rfl)
theorem dX1_movingPower_1 : decode cX1_movingPower 1 = .ok (.iload_n 1, 1) := dk_27 (dk_at dksX1_movingPower_0 1 rfl rfl)
theorem dX1_movingPower_2 : decode cX1_movingPower 2 = .ok (.invokevirtual 137, 3) := dk_182 0 137 (dk_at dksX1_movingPower_0 2 rfl rfl)
theorem dX1_movingPower_5 : decode cX1_movingPower 5 = .ok (.pop, 1) := dk_87 (dk_at dksX1_movingPower_0 5 rfl rfl)
theorem dX1_movingPower_6 : decode cX1_movingPower 6 = .ok (.iload_n 2, 1) := dk_28 (dk_at dksX1_movingPower_0 6 rfl rfl)
theorem dX1_movingPower_7 : decode cX1_movingPower 7 = .ok (.i2l, 1) := dk_133 (dk_at dksX1_movingPower_0 7 rfl rfl)
theorem dX1_movingPower_8 : decode cX1_movingPower 8 = .ok (.ldc2_w 369, 3) := dk_20 1 113 (dk_at dksX1_movingPower_0 8 rfl rfl)
theorem dX1_movingPower_11 : decode cX1_movingPower 11 = .ok (.ldc2_w 371, 3) := dk_20 1 115 (dk_at dksX1_movingPower_0 11 rfl rfl)
theorem dX1_movingPower_14 : decode cX1_movingPower 14 = .ok (.invokestatic 85, 3) := dk_184 0 85 (dk_at dksX1_movingPower_0 14 rfl rfl)
theorem dX1_movingPower_17 : decode cX1_movingPower 17 = .ok (.ifCond .eq 21, 3) := dk_153 0 21 (dk_at dksX1_movingPower_0 17 rfl rfl)
theorem dX1_movingPower_20 : decode cX1_movingPower 20 = .ok (.iload_n 3, 1) := dk_29 (dk_at dksX1_movingPower_0 20 rfl rfl)
theorem dX1_movingPower_21 : decode cX1_movingPower 21 = .ok (.i2l, 1) := dk_133 (dk_at dksX1_movingPower_0 21 rfl rfl)
theorem dX1_movingPower_22 : decode cX1_movingPower 22 = .ok (.ldc2_w 369, 3) := dk_20 1 113 (dk_at dksX1_movingPower_1 0 rfl rfl)
theorem dX1_movingPower_25 : decode cX1_movingPower 25 = .ok (.ldc2_w 371, 3) := dk_20 1 115 (dk_at dksX1_movingPower_1 3 rfl rfl)
theorem dX1_movingPower_28 : decode cX1_movingPower 28 = .ok (.invokestatic 85, 3) := dk_184 0 85 (dk_at dksX1_movingPower_1 6 rfl rfl)
theorem dX1_movingPower_31 : decode cX1_movingPower 31 = .ok (.ifCond .eq 7, 3) := dk_153 0 7 (dk_at dksX1_movingPower_1 9 rfl rfl)
theorem dX1_movingPower_34 : decode cX1_movingPower 34 = .ok (.iconst 1, 1) := dk_4 (dk_at dksX1_movingPower_1 12 rfl rfl)
theorem dX1_movingPower_35 : decode cX1_movingPower 35 = .ok (.goto 4, 3) := dk_167 0 4 (dk_at dksX1_movingPower_1 13 rfl rfl)
theorem dX1_movingPower_38 : decode cX1_movingPower 38 = .ok (.iconst 0, 1) := dk_3 (dk_at dksX1_movingPower_1 16 rfl rfl)
theorem dX1_movingPower_39 : decode cX1_movingPower 39 = .ok (.invokestatic 185, 3) := dk_184 0 185 (dk_at dksX1_movingPower_1 17 rfl rfl)
theorem dX1_movingPower_42 : decode cX1_movingPower 42 = .ok (.aload_n 0, 1) := dk_42 (dk_at dksX1_movingPower_1 20 rfl rfl)
theorem dX1_movingPower_43 : decode cX1_movingPower 43 = .ok (.getfield 95, 3) := dk_180 0 95 (dk_at dksX1_movingPower_1 21 rfl rfl)
theorem dX1_movingPower_46 : decode cX1_movingPower 46 = .ok (.iload_n 1, 1) := dk_27 (dk_at dksX1_movingPower_2 0 rfl rfl)
theorem dX1_movingPower_47 : decode cX1_movingPower 47 = .ok (.iload_n 2, 1) := dk_28 (dk_at dksX1_movingPower_2 1 rfl rfl)
theorem dX1_movingPower_48 : decode cX1_movingPower 48 = .ok (.iload_n 3, 1) := dk_29 (dk_at dksX1_movingPower_2 2 rfl rfl)
theorem dX1_movingPower_49 : decode cX1_movingPower 49 = .ok (.invokevirtual 373, 3) := dk_182 1 117 (dk_at dksX1_movingPower_2 3 rfl rfl)
theorem dX1_movingPower_52 : decode cX1_movingPower 52 = .ok (.lreturn, 1) := dk_173 (dk_at dksX1_movingPower_2 6 rfl rfl)
abbrev cX1_bestVelocity : ByteArray := prog_1_method_65_code
def yX1_bestVelocity : MethodName := ⟨RX1, "bestVelocity", "(III)I"⟩
def dkwX1_bestVelocity_3 : List UInt8 := [21, 6, 21, 5, 108, 104, 21, 6, 21, 5, 112, 96, 172]
abbrev dktX1_bestVelocity_3 : List UInt8 := dkwX1_bestVelocity_3 ++ []
def dkwX1_bestVelocity_2 : List UInt8 := [21, 5, 21, 5, 104, 25, 4, 27, 28, 21, 5, 29, 186, 1, 120, 0, 0, 184, 1, 56, 54, 6, 16, 100]
abbrev dktX1_bestVelocity_2 : List UInt8 := dkwX1_bestVelocity_2 ++ dktX1_bestVelocity_3
def dkwX1_bestVelocity_1 : List UInt8 := [20, 1, 94, 184, 0, 85, 153, 0, 7, 4, 167, 0, 4, 3, 184, 0, 185, 5, 29, 104, 4, 96, 54, 5]
abbrev dktX1_bestVelocity_1 : List UInt8 := dkwX1_bestVelocity_1 ++ dktX1_bestVelocity_2
def dkwX1_bestVelocity_0 : List UInt8 := [42, 27, 182, 0, 137, 58, 4, 28, 133, 10, 20, 0, 149, 184, 0, 85, 153, 0, 19, 29, 133, 9]
abbrev dktX1_bestVelocity_0 : List UInt8 := dkwX1_bestVelocity_0 ++ dktX1_bestVelocity_1
theorem dksX1_bestVelocity_0 : cX1_bestVelocity.data.toList.drop 0 = dktX1_bestVelocity_0 := by decide +kernel
theorem dksX1_bestVelocity_1 : cX1_bestVelocity.data.toList.drop 22 = dktX1_bestVelocity_1 := dk_seg dksX1_bestVelocity_0 22 rfl rfl
theorem dksX1_bestVelocity_2 : cX1_bestVelocity.data.toList.drop 46 = dktX1_bestVelocity_2 := dk_seg dksX1_bestVelocity_1 24 rfl rfl
theorem dksX1_bestVelocity_3 : cX1_bestVelocity.data.toList.drop 70 = dktX1_bestVelocity_3 := dk_seg dksX1_bestVelocity_2 24 rfl rfl
theorem dX1_bestVelocity_0 : decode cX1_bestVelocity 0 = .ok (.aload_n 0, 1) := dk_42 (dk_at dksX1_bestVelocity_0 0 rfl rfl)
theorem dX1_bestVelocity_1 : decode cX1_bestVelocity 1 = .ok (.iload_n 1, 1) := dk_27 (dk_at dksX1_bestVelocity_0 1 rfl rfl)
theorem dX1_bestVelocity_2 : decode cX1_bestVelocity 2 = .ok (.invokevirtual 137, 3) := dk_182 0 137 (dk_at dksX1_bestVelocity_0 2 rfl rfl)
theorem dX1_bestVelocity_5 : decode cX1_bestVelocity 5 = .ok (.astore 4, 2) := dk_58 4 (dk_at dksX1_bestVelocity_0 5 rfl rfl)
theorem dX1_bestVelocity_7 : decode cX1_bestVelocity 7 = .ok (.iload_n 2, 1) := dk_28 (dk_at dksX1_bestVelocity_0 7 rfl rfl)
theorem dX1_bestVelocity_8 : decode cX1_bestVelocity 8 = .ok (.i2l, 1) := dk_133 (dk_at dksX1_bestVelocity_0 8 rfl rfl)
theorem dX1_bestVelocity_9 : decode cX1_bestVelocity 9 = .ok (.lconst 1, 1) := dk_10 (dk_at dksX1_bestVelocity_0 9 rfl rfl)
theorem dX1_bestVelocity_10 : decode cX1_bestVelocity 10 = .ok (.ldc2_w 149, 3) := dk_20 0 149 (dk_at dksX1_bestVelocity_0 10 rfl rfl)
theorem dX1_bestVelocity_13 : decode cX1_bestVelocity 13 = .ok (.invokestatic 85, 3) := dk_184 0 85 (dk_at dksX1_bestVelocity_0 13 rfl rfl)
theorem dX1_bestVelocity_16 : decode cX1_bestVelocity 16 = .ok (.ifCond .eq 19, 3) := dk_153 0 19 (dk_at dksX1_bestVelocity_0 16 rfl rfl)
theorem dX1_bestVelocity_19 : decode cX1_bestVelocity 19 = .ok (.iload_n 3, 1) := dk_29 (dk_at dksX1_bestVelocity_0 19 rfl rfl)
theorem dX1_bestVelocity_20 : decode cX1_bestVelocity 20 = .ok (.i2l, 1) := dk_133 (dk_at dksX1_bestVelocity_0 20 rfl rfl)
theorem dX1_bestVelocity_21 : decode cX1_bestVelocity 21 = .ok (.lconst 0, 1) := dk_9 (dk_at dksX1_bestVelocity_0 21 rfl rfl)
theorem dX1_bestVelocity_22 : decode cX1_bestVelocity 22 = .ok (.ldc2_w 350, 3) := dk_20 1 94 (dk_at dksX1_bestVelocity_1 0 rfl rfl)
theorem dX1_bestVelocity_25 : decode cX1_bestVelocity 25 = .ok (.invokestatic 85, 3) := dk_184 0 85 (dk_at dksX1_bestVelocity_1 3 rfl rfl)
theorem dX1_bestVelocity_28 : decode cX1_bestVelocity 28 = .ok (.ifCond .eq 7, 3) := dk_153 0 7 (dk_at dksX1_bestVelocity_1 6 rfl rfl)
theorem dX1_bestVelocity_31 : decode cX1_bestVelocity 31 = .ok (.iconst 1, 1) := dk_4 (dk_at dksX1_bestVelocity_1 9 rfl rfl)
theorem dX1_bestVelocity_32 : decode cX1_bestVelocity 32 = .ok (.goto 4, 3) := dk_167 0 4 (dk_at dksX1_bestVelocity_1 10 rfl rfl)
theorem dX1_bestVelocity_35 : decode cX1_bestVelocity 35 = .ok (.iconst 0, 1) := dk_3 (dk_at dksX1_bestVelocity_1 13 rfl rfl)
theorem dX1_bestVelocity_36 : decode cX1_bestVelocity 36 = .ok (.invokestatic 185, 3) := dk_184 0 185 (dk_at dksX1_bestVelocity_1 14 rfl rfl)
theorem dX1_bestVelocity_39 : decode cX1_bestVelocity 39 = .ok (.iconst 2, 1) := dk_5 (dk_at dksX1_bestVelocity_1 17 rfl rfl)
theorem dX1_bestVelocity_40 : decode cX1_bestVelocity 40 = .ok (.iload_n 3, 1) := dk_29 (dk_at dksX1_bestVelocity_1 18 rfl rfl)
theorem dX1_bestVelocity_41 : decode cX1_bestVelocity 41 = .ok (.imul, 1) := dk_104 (dk_at dksX1_bestVelocity_1 19 rfl rfl)
theorem dX1_bestVelocity_42 : decode cX1_bestVelocity 42 = .ok (.iconst 1, 1) := dk_4 (dk_at dksX1_bestVelocity_1 20 rfl rfl)
theorem dX1_bestVelocity_43 : decode cX1_bestVelocity 43 = .ok (.iadd, 1) := dk_96 (dk_at dksX1_bestVelocity_1 21 rfl rfl)
theorem dX1_bestVelocity_44 : decode cX1_bestVelocity 44 = .ok (.istore 5, 2) := dk_54 5 (dk_at dksX1_bestVelocity_1 22 rfl rfl)
theorem dX1_bestVelocity_46 : decode cX1_bestVelocity 46 = .ok (.iload 5, 2) := dk_21 5 (dk_at dksX1_bestVelocity_2 0 rfl rfl)
theorem dX1_bestVelocity_48 : decode cX1_bestVelocity 48 = .ok (.iload 5, 2) := dk_21 5 (dk_at dksX1_bestVelocity_2 2 rfl rfl)
theorem dX1_bestVelocity_50 : decode cX1_bestVelocity 50 = .ok (.imul, 1) := dk_104 (dk_at dksX1_bestVelocity_2 4 rfl rfl)
theorem dX1_bestVelocity_51 : decode cX1_bestVelocity 51 = .ok (.aload 4, 2) := dk_25 4 (dk_at dksX1_bestVelocity_2 5 rfl rfl)
theorem dX1_bestVelocity_53 : decode cX1_bestVelocity 53 = .ok (.iload_n 1, 1) := dk_27 (dk_at dksX1_bestVelocity_2 7 rfl rfl)
theorem dX1_bestVelocity_54 : decode cX1_bestVelocity 54 = .ok (.iload_n 2, 1) := dk_28 (dk_at dksX1_bestVelocity_2 8 rfl rfl)
theorem dX1_bestVelocity_55 : decode cX1_bestVelocity 55 = .ok (.iload 5, 2) := dk_21 5 (dk_at dksX1_bestVelocity_2 9 rfl rfl)
theorem dX1_bestVelocity_57 : decode cX1_bestVelocity 57 = .ok (.iload_n 3, 1) := dk_29 (dk_at dksX1_bestVelocity_2 11 rfl rfl)
theorem dX1_bestVelocity_58 : decode cX1_bestVelocity 58 = .ok (.invokedynamic 376, 5) := by decide +kernel
theorem dX1_bestVelocity_63 : decode cX1_bestVelocity 63 = .ok (.invokestatic 312, 3) := dk_184 1 56 (dk_at dksX1_bestVelocity_2 17 rfl rfl)
theorem dX1_bestVelocity_66 : decode cX1_bestVelocity 66 = .ok (.istore 6, 2) := dk_54 6 (dk_at dksX1_bestVelocity_2 20 rfl rfl)
theorem dX1_bestVelocity_68 : decode cX1_bestVelocity 68 = .ok (.bipush 100, 2) := dk_16 100 (dk_at dksX1_bestVelocity_2 22 rfl rfl)
theorem dX1_bestVelocity_70 : decode cX1_bestVelocity 70 = .ok (.iload 6, 2) := dk_21 6 (dk_at dksX1_bestVelocity_3 0 rfl rfl)
theorem dX1_bestVelocity_72 : decode cX1_bestVelocity 72 = .ok (.iload 5, 2) := dk_21 5 (dk_at dksX1_bestVelocity_3 2 rfl rfl)
theorem dX1_bestVelocity_74 : decode cX1_bestVelocity 74 = .ok (.idiv, 1) := dk_108 (dk_at dksX1_bestVelocity_3 4 rfl rfl)
theorem dX1_bestVelocity_75 : decode cX1_bestVelocity 75 = .ok (.imul, 1) := dk_104 (dk_at dksX1_bestVelocity_3 5 rfl rfl)
theorem dX1_bestVelocity_76 : decode cX1_bestVelocity 76 = .ok (.iload 6, 2) := dk_21 6 (dk_at dksX1_bestVelocity_3 6 rfl rfl)
theorem dX1_bestVelocity_78 : decode cX1_bestVelocity 78 = .ok (.iload 5, 2) := dk_21 5 (dk_at dksX1_bestVelocity_3 8 rfl rfl)
theorem dX1_bestVelocity_80 : decode cX1_bestVelocity 80 = .ok (.irem, 1) := dk_112 (dk_at dksX1_bestVelocity_3 10 rfl rfl)
theorem dX1_bestVelocity_81 : decode cX1_bestVelocity 81 = .ok (.iadd, 1) := dk_96 (dk_at dksX1_bestVelocity_3 11 rfl rfl)
theorem dX1_bestVelocity_82 : decode cX1_bestVelocity 82 = .ok (.ireturn, 1) := dk_172 (dk_at dksX1_bestVelocity_3 12 rfl rfl)
abbrev cX1_lambda_bestVelocity_6 : ByteArray := prog_1_method_93_code
def yX1_lambda_bestVelocity_6 : MethodName := ⟨RX1, "lambda$bestVelocity$6", "(LAcousticCamera$State;IIIII)J"⟩
def dkwX1_lambda_bestVelocity_6_0 : List UInt8 := [42, 27, 28, 21, 5, 29, 108, 21, 4, 100, 104, 28, 21, 5, 29, 112, 21, 4, 100, 104, 182, 1, 117, 173]
abbrev dktX1_lambda_bestVelocity_6_0 : List UInt8 := dkwX1_lambda_bestVelocity_6_0 ++ []
theorem dksX1_lambda_bestVelocity_6_0 : cX1_lambda_bestVelocity_6.data.toList.drop 0 = dktX1_lambda_bestVelocity_6_0 := by decide +kernel
theorem dX1_lambda_bestVelocity_6_0 : decode cX1_lambda_bestVelocity_6 0 = .ok (.aload_n 0, 1) := dk_42 (dk_at dksX1_lambda_bestVelocity_6_0 0 rfl rfl)
theorem dX1_lambda_bestVelocity_6_1 : decode cX1_lambda_bestVelocity_6 1 = .ok (.iload_n 1, 1) := dk_27 (dk_at dksX1_lambda_bestVelocity_6_0 1 rfl rfl)
theorem dX1_lambda_bestVelocity_6_2 : decode cX1_lambda_bestVelocity_6 2 = .ok (.iload_n 2, 1) := dk_28 (dk_at dksX1_lambda_bestVelocity_6_0 2 rfl rfl)
theorem dX1_lambda_bestVelocity_6_3 : decode cX1_lambda_bestVelocity_6 3 = .ok (.iload 5, 2) := dk_21 5 (dk_at dksX1_lambda_bestVelocity_6_0 3 rfl rfl)
theorem dX1_lambda_bestVelocity_6_5 : decode cX1_lambda_bestVelocity_6 5 = .ok (.iload_n 3, 1) := dk_29 (dk_at dksX1_lambda_bestVelocity_6_0 5 rfl rfl)
theorem dX1_lambda_bestVelocity_6_6 : decode cX1_lambda_bestVelocity_6 6 = .ok (.idiv, 1) := dk_108 (dk_at dksX1_lambda_bestVelocity_6_0 6 rfl rfl)
theorem dX1_lambda_bestVelocity_6_7 : decode cX1_lambda_bestVelocity_6 7 = .ok (.iload 4, 2) := dk_21 4 (dk_at dksX1_lambda_bestVelocity_6_0 7 rfl rfl)
theorem dX1_lambda_bestVelocity_6_9 : decode cX1_lambda_bestVelocity_6 9 = .ok (.isub, 1) := dk_100 (dk_at dksX1_lambda_bestVelocity_6_0 9 rfl rfl)
theorem dX1_lambda_bestVelocity_6_10 : decode cX1_lambda_bestVelocity_6 10 = .ok (.imul, 1) := dk_104 (dk_at dksX1_lambda_bestVelocity_6_0 10 rfl rfl)
theorem dX1_lambda_bestVelocity_6_11 : decode cX1_lambda_bestVelocity_6 11 = .ok (.iload_n 2, 1) := dk_28 (dk_at dksX1_lambda_bestVelocity_6_0 11 rfl rfl)
theorem dX1_lambda_bestVelocity_6_12 : decode cX1_lambda_bestVelocity_6 12 = .ok (.iload 5, 2) := dk_21 5 (dk_at dksX1_lambda_bestVelocity_6_0 12 rfl rfl)
theorem dX1_lambda_bestVelocity_6_14 : decode cX1_lambda_bestVelocity_6 14 = .ok (.iload_n 3, 1) := dk_29 (dk_at dksX1_lambda_bestVelocity_6_0 14 rfl rfl)
theorem dX1_lambda_bestVelocity_6_15 : decode cX1_lambda_bestVelocity_6 15 = .ok (.irem, 1) := dk_112 (dk_at dksX1_lambda_bestVelocity_6_0 15 rfl rfl)
theorem dX1_lambda_bestVelocity_6_16 : decode cX1_lambda_bestVelocity_6 16 = .ok (.iload 4, 2) := dk_21 4 (dk_at dksX1_lambda_bestVelocity_6_0 16 rfl rfl)
theorem dX1_lambda_bestVelocity_6_18 : decode cX1_lambda_bestVelocity_6 18 = .ok (.isub, 1) := dk_100 (dk_at dksX1_lambda_bestVelocity_6_0 18 rfl rfl)
theorem dX1_lambda_bestVelocity_6_19 : decode cX1_lambda_bestVelocity_6 19 = .ok (.imul, 1) := dk_104 (dk_at dksX1_lambda_bestVelocity_6_0 19 rfl rfl)
theorem dX1_lambda_bestVelocity_6_20 : decode cX1_lambda_bestVelocity_6 20 = .ok (.invokevirtual 373, 3) := dk_182 1 117 (dk_at dksX1_lambda_bestVelocity_6_0 20 rfl rfl)
theorem dX1_lambda_bestVelocity_6_23 : decode cX1_lambda_bestVelocity_6 23 = .ok (.lreturn, 1) := dk_173 (dk_at dksX1_lambda_bestVelocity_6_0 23 rfl rfl)
abbrev cX1_correlation : ByteArray := prog_1_method_66_code
def yX1_correlation : MethodName := ⟨RX1, "correlation", "(III)J"⟩
def dkwX1_correlation_1 : List UInt8 := [182, 1, 126, 173]
abbrev dktX1_correlation_1 : List UInt8 := dkwX1_correlation_1 ++ []
def dkwX1_correlation_0 : List UInt8 := [42, 27, 28, 182, 1, 123, 87, 42, 29, 182, 0, 226, 184, 0, 185, 42, 180, 0, 95, 27, 28, 29]
abbrev dktX1_correlation_0 : List UInt8 := dkwX1_correlation_0 ++ dktX1_correlation_1
theorem dksX1_correlation_0 : cX1_correlation.data.toList.drop 0 = dktX1_correlation_0 := by decide +kernel
theorem dksX1_correlation_1 : cX1_correlation.data.toList.drop 22 = dktX1_correlation_1 := dk_seg dksX1_correlation_0 22 rfl rfl
theorem dX1_correlation_0 : decode cX1_correlation 0 = .ok (.aload_n 0, 1) := dk_42 (dk_at dksX1_correlation_0 0 rfl rfl)
theorem dX1_correlation_1 : decode cX1_correlation 1 = .ok (.iload_n 1, 1) := dk_27 (dk_at dksX1_correlation_0 1 rfl rfl)
theorem dX1_correlation_2 : decode cX1_correlation 2 = .ok (.iload_n 2, 1) := dk_28 (dk_at dksX1_correlation_0 2 rfl rfl)
theorem dX1_correlation_3 : decode cX1_correlation 3 = .ok (.invokevirtual 379, 3) := dk_182 1 123 (dk_at dksX1_correlation_0 3 rfl rfl)
theorem dX1_correlation_6 : decode cX1_correlation 6 = .ok (.pop, 1) := dk_87 (dk_at dksX1_correlation_0 6 rfl rfl)
theorem dX1_correlation_7 : decode cX1_correlation 7 = .ok (.aload_n 0, 1) := dk_42 (dk_at dksX1_correlation_0 7 rfl rfl)
theorem dX1_correlation_8 : decode cX1_correlation 8 = .ok (.iload_n 3, 1) := dk_29 (dk_at dksX1_correlation_0 8 rfl rfl)
theorem dX1_correlation_9 : decode cX1_correlation 9 = .ok (.invokevirtual 226, 3) := dk_182 0 226 (dk_at dksX1_correlation_0 9 rfl rfl)
theorem dX1_correlation_12 : decode cX1_correlation 12 = .ok (.invokestatic 185, 3) := dk_184 0 185 (dk_at dksX1_correlation_0 12 rfl rfl)
theorem dX1_correlation_15 : decode cX1_correlation 15 = .ok (.aload_n 0, 1) := dk_42 (dk_at dksX1_correlation_0 15 rfl rfl)
theorem dX1_correlation_16 : decode cX1_correlation 16 = .ok (.getfield 95, 3) := dk_180 0 95 (dk_at dksX1_correlation_0 16 rfl rfl)
theorem dX1_correlation_19 : decode cX1_correlation 19 = .ok (.iload_n 1, 1) := dk_27 (dk_at dksX1_correlation_0 19 rfl rfl)
theorem dX1_correlation_20 : decode cX1_correlation 20 = .ok (.iload_n 2, 1) := dk_28 (dk_at dksX1_correlation_0 20 rfl rfl)
theorem dX1_correlation_21 : decode cX1_correlation 21 = .ok (.iload_n 3, 1) := dk_29 (dk_at dksX1_correlation_0 21 rfl rfl)
theorem dX1_correlation_22 : decode cX1_correlation 22 = .ok (.invokevirtual 382, 3) := dk_182 1 126 (dk_at dksX1_correlation_1 0 rfl rfl)
theorem dX1_correlation_25 : decode cX1_correlation 25 = .ok (.lreturn, 1) := dk_173 (dk_at dksX1_correlation_1 3 rfl rfl)
abbrev cX1_withMics : ByteArray := prog_1_method_14_code
def yX1_withMics : MethodName := ⟨RX1, "withMics", "(II)LAcousticCamera$State;"⟩
def dkwX1_withMics_0 : List UInt8 := [42, 27, 182, 0, 133, 87, 42, 28, 182, 0, 133, 176]
abbrev dktX1_withMics_0 : List UInt8 := dkwX1_withMics_0 ++ []
theorem dksX1_withMics_0 : cX1_withMics.data.toList.drop 0 = dktX1_withMics_0 := by decide +kernel
theorem dX1_withMics_0 : decode cX1_withMics 0 = .ok (.aload_n 0, 1) := dk_42 (dk_at dksX1_withMics_0 0 rfl rfl)
theorem dX1_withMics_1 : decode cX1_withMics 1 = .ok (.iload_n 1, 1) := dk_27 (dk_at dksX1_withMics_0 1 rfl rfl)
theorem dX1_withMics_2 : decode cX1_withMics 2 = .ok (.invokevirtual 133, 3) := dk_182 0 133 (dk_at dksX1_withMics_0 2 rfl rfl)
theorem dX1_withMics_5 : decode cX1_withMics 5 = .ok (.pop, 1) := dk_87 (dk_at dksX1_withMics_0 5 rfl rfl)
theorem dX1_withMics_6 : decode cX1_withMics 6 = .ok (.aload_n 0, 1) := dk_42 (dk_at dksX1_withMics_0 6 rfl rfl)
theorem dX1_withMics_7 : decode cX1_withMics 7 = .ok (.iload_n 2, 1) := dk_28 (dk_at dksX1_withMics_0 7 rfl rfl)
theorem dX1_withMics_8 : decode cX1_withMics 8 = .ok (.invokevirtual 133, 3) := dk_182 0 133 (dk_at dksX1_withMics_0 8 rfl rfl)
theorem dX1_withMics_11 : decode cX1_withMics 11 = .ok (.areturn, 1) := dk_176 (dk_at dksX1_withMics_0 11 rfl rfl)
abbrev cX1_bestLag : ByteArray := prog_1_method_67_code
def yX1_bestLag : MethodName := ⟨RX1, "bestLag", "(III)I"⟩
def dkwX1_bestLag_1 : List UInt8 := [186, 1, 129, 0, 0, 184, 1, 56, 172]
abbrev dktX1_bestLag_1 : List UInt8 := dkwX1_bestLag_1 ++ []
def dkwX1_bestLag_0 : List UInt8 := [42, 27, 28, 182, 1, 123, 58, 4, 42, 29, 182, 0, 226, 184, 0, 185, 29, 4, 96, 25, 4, 27, 28]
abbrev dktX1_bestLag_0 : List UInt8 := dkwX1_bestLag_0 ++ dktX1_bestLag_1
theorem dksX1_bestLag_0 : cX1_bestLag.data.toList.drop 0 = dktX1_bestLag_0 := by decide +kernel
theorem dksX1_bestLag_1 : cX1_bestLag.data.toList.drop 23 = dktX1_bestLag_1 := dk_seg dksX1_bestLag_0 23 rfl rfl
theorem dX1_bestLag_0 : decode cX1_bestLag 0 = .ok (.aload_n 0, 1) := dk_42 (dk_at dksX1_bestLag_0 0 rfl rfl)
theorem dX1_bestLag_1 : decode cX1_bestLag 1 = .ok (.iload_n 1, 1) := dk_27 (dk_at dksX1_bestLag_0 1 rfl rfl)
theorem dX1_bestLag_2 : decode cX1_bestLag 2 = .ok (.iload_n 2, 1) := dk_28 (dk_at dksX1_bestLag_0 2 rfl rfl)
theorem dX1_bestLag_3 : decode cX1_bestLag 3 = .ok (.invokevirtual 379, 3) := dk_182 1 123 (dk_at dksX1_bestLag_0 3 rfl rfl)
theorem dX1_bestLag_6 : decode cX1_bestLag 6 = .ok (.astore 4, 2) := dk_58 4 (dk_at dksX1_bestLag_0 6 rfl rfl)
theorem dX1_bestLag_8 : decode cX1_bestLag 8 = .ok (.aload_n 0, 1) := dk_42 (dk_at dksX1_bestLag_0 8 rfl rfl)
theorem dX1_bestLag_9 : decode cX1_bestLag 9 = .ok (.iload_n 3, 1) := dk_29 (dk_at dksX1_bestLag_0 9 rfl rfl)
theorem dX1_bestLag_10 : decode cX1_bestLag 10 = .ok (.invokevirtual 226, 3) := dk_182 0 226 (dk_at dksX1_bestLag_0 10 rfl rfl)
theorem dX1_bestLag_13 : decode cX1_bestLag 13 = .ok (.invokestatic 185, 3) := dk_184 0 185 (dk_at dksX1_bestLag_0 13 rfl rfl)
theorem dX1_bestLag_16 : decode cX1_bestLag 16 = .ok (.iload_n 3, 1) := dk_29 (dk_at dksX1_bestLag_0 16 rfl rfl)
theorem dX1_bestLag_17 : decode cX1_bestLag 17 = .ok (.iconst 1, 1) := dk_4 (dk_at dksX1_bestLag_0 17 rfl rfl)
theorem dX1_bestLag_18 : decode cX1_bestLag 18 = .ok (.iadd, 1) := dk_96 (dk_at dksX1_bestLag_0 18 rfl rfl)
theorem dX1_bestLag_19 : decode cX1_bestLag 19 = .ok (.aload 4, 2) := dk_25 4 (dk_at dksX1_bestLag_0 19 rfl rfl)
theorem dX1_bestLag_21 : decode cX1_bestLag 21 = .ok (.iload_n 1, 1) := dk_27 (dk_at dksX1_bestLag_0 21 rfl rfl)
theorem dX1_bestLag_22 : decode cX1_bestLag 22 = .ok (.iload_n 2, 1) := dk_28 (dk_at dksX1_bestLag_0 22 rfl rfl)
theorem dX1_bestLag_23 : decode cX1_bestLag 23 = .ok (.invokedynamic 385, 5) := by decide +kernel
theorem dX1_bestLag_28 : decode cX1_bestLag 28 = .ok (.invokestatic 312, 3) := dk_184 1 56 (dk_at dksX1_bestLag_1 5 rfl rfl)
theorem dX1_bestLag_31 : decode cX1_bestLag 31 = .ok (.ireturn, 1) := dk_172 (dk_at dksX1_bestLag_1 8 rfl rfl)
abbrev cX1_lambda_bestLag_7 : ByteArray := prog_1_method_92_code
def yX1_lambda_bestLag_7 : MethodName := ⟨RX1, "lambda$bestLag$7", "(LAcousticCamera$State;III)J"⟩
def dkwX1_lambda_bestLag_7_0 : List UInt8 := [42, 27, 28, 29, 182, 1, 126, 173]
abbrev dktX1_lambda_bestLag_7_0 : List UInt8 := dkwX1_lambda_bestLag_7_0 ++ []
theorem dksX1_lambda_bestLag_7_0 : cX1_lambda_bestLag_7.data.toList.drop 0 = dktX1_lambda_bestLag_7_0 := by decide +kernel
theorem dX1_lambda_bestLag_7_0 : decode cX1_lambda_bestLag_7 0 = .ok (.aload_n 0, 1) := dk_42 (dk_at dksX1_lambda_bestLag_7_0 0 rfl rfl)
theorem dX1_lambda_bestLag_7_1 : decode cX1_lambda_bestLag_7 1 = .ok (.iload_n 1, 1) := dk_27 (dk_at dksX1_lambda_bestLag_7_0 1 rfl rfl)
theorem dX1_lambda_bestLag_7_2 : decode cX1_lambda_bestLag_7 2 = .ok (.iload_n 2, 1) := dk_28 (dk_at dksX1_lambda_bestLag_7_0 2 rfl rfl)
theorem dX1_lambda_bestLag_7_3 : decode cX1_lambda_bestLag_7 3 = .ok (.iload_n 3, 1) := dk_29 (dk_at dksX1_lambda_bestLag_7_0 3 rfl rfl)
theorem dX1_lambda_bestLag_7_4 : decode cX1_lambda_bestLag_7 4 = .ok (.invokevirtual 382, 3) := dk_182 1 126 (dk_at dksX1_lambda_bestLag_7_0 4 rfl rfl)
theorem dX1_lambda_bestLag_7_7 : decode cX1_lambda_bestLag_7 7 = .ok (.lreturn, 1) := dk_173 (dk_at dksX1_lambda_bestLag_7_0 7 rfl rfl)
abbrev cX1_level : ByteArray := prog_1_method_68_code
def yX1_level : MethodName := ⟨RX1, "level", "(I)J"⟩
def dkwX1_level_0 : List UInt8 := [42, 27, 182, 0, 133, 27, 182, 1, 132, 173]
abbrev dktX1_level_0 : List UInt8 := dkwX1_level_0 ++ []
theorem dksX1_level_0 : cX1_level.data.toList.drop 0 = dktX1_level_0 := by decide +kernel
theorem dX1_level_0 : decode cX1_level 0 = .ok (.aload_n 0, 1) := dk_42 (dk_at dksX1_level_0 0 rfl rfl)
theorem dX1_level_1 : decode cX1_level 1 = .ok (.iload_n 1, 1) := dk_27 (dk_at dksX1_level_0 1 rfl rfl)
theorem dX1_level_2 : decode cX1_level 2 = .ok (.invokevirtual 133, 3) := dk_182 0 133 (dk_at dksX1_level_0 2 rfl rfl)
theorem dX1_level_5 : decode cX1_level 5 = .ok (.iload_n 1, 1) := dk_27 (dk_at dksX1_level_0 5 rfl rfl)
theorem dX1_level_6 : decode cX1_level 6 = .ok (.invokevirtual 388, 3) := dk_182 1 132 (dk_at dksX1_level_0 6 rfl rfl)
theorem dX1_level_9 : decode cX1_level 9 = .ok (.lreturn, 1) := dk_173 (dk_at dksX1_level_0 9 rfl rfl)
abbrev cX1_loudest : ByteArray := prog_1_method_69_code
def yX1_loudest : MethodName := ⟨RX1, "loudest", "(I)I"⟩
def dkwX1_loudest_1 : List UInt8 := [184, 1, 141, 27, 182, 1, 40, 192, 0, 35, 182, 0, 37, 172]
abbrev dktX1_loudest_1 : List UInt8 := dkwX1_loudest_1 ++ []
def dkwX1_loudest_0 : List UInt8 := [42, 27, 182, 0, 133, 77, 44, 180, 0, 203, 190, 186, 1, 135, 0, 0, 44, 186, 1, 138, 0, 0]
abbrev dktX1_loudest_0 : List UInt8 := dkwX1_loudest_0 ++ dktX1_loudest_1
theorem dksX1_loudest_0 : cX1_loudest.data.toList.drop 0 = dktX1_loudest_0 := by decide +kernel
theorem dksX1_loudest_1 : cX1_loudest.data.toList.drop 22 = dktX1_loudest_1 := dk_seg dksX1_loudest_0 22 rfl rfl
theorem dX1_loudest_0 : decode cX1_loudest 0 = .ok (.aload_n 0, 1) := dk_42 (dk_at dksX1_loudest_0 0 rfl rfl)
theorem dX1_loudest_1 : decode cX1_loudest 1 = .ok (.iload_n 1, 1) := dk_27 (dk_at dksX1_loudest_0 1 rfl rfl)
theorem dX1_loudest_2 : decode cX1_loudest 2 = .ok (.invokevirtual 133, 3) := dk_182 0 133 (dk_at dksX1_loudest_0 2 rfl rfl)
theorem dX1_loudest_5 : decode cX1_loudest 5 = .ok (.astore_n 2, 1) := dk_77 (dk_at dksX1_loudest_0 5 rfl rfl)
theorem dX1_loudest_6 : decode cX1_loudest 6 = .ok (.aload_n 2, 1) := dk_44 (dk_at dksX1_loudest_0 6 rfl rfl)
theorem dX1_loudest_7 : decode cX1_loudest 7 = .ok (.getfield 203, 3) := dk_180 0 203 (dk_at dksX1_loudest_0 7 rfl rfl)
theorem dX1_loudest_10 : decode cX1_loudest 10 = .ok (.arraylength, 1) := dk_190 (dk_at dksX1_loudest_0 10 rfl rfl)
theorem dX1_loudest_11 : decode cX1_loudest 11 = .ok (.invokedynamic 391, 5) := by decide +kernel
theorem dX1_loudest_16 : decode cX1_loudest 16 = .ok (.aload_n 2, 1) := dk_44 (dk_at dksX1_loudest_0 16 rfl rfl)
theorem dX1_loudest_17 : decode cX1_loudest 17 = .ok (.invokedynamic 394, 5) := by decide +kernel
theorem dX1_loudest_22 : decode cX1_loudest 22 = .ok (.invokestatic 397, 3) := dk_184 1 141 (dk_at dksX1_loudest_1 0 rfl rfl)
theorem dX1_loudest_25 : decode cX1_loudest 25 = .ok (.iload_n 1, 1) := dk_27 (dk_at dksX1_loudest_1 3 rfl rfl)
theorem dX1_loudest_26 : decode cX1_loudest 26 = .ok (.invokevirtual 296, 3) := dk_182 1 40 (dk_at dksX1_loudest_1 4 rfl rfl)
theorem dX1_loudest_29 : decode cX1_loudest 29 = .ok (.checkcast 35, 3) := dk_192 0 35 (dk_at dksX1_loudest_1 7 rfl rfl)
theorem dX1_loudest_32 : decode cX1_loudest 32 = .ok (.invokevirtual 37, 3) := dk_182 0 37 (dk_at dksX1_loudest_1 10 rfl rfl)
theorem dX1_loudest_35 : decode cX1_loudest 35 = .ok (.ireturn, 1) := dk_172 (dk_at dksX1_loudest_1 13 rfl rfl)
abbrev cX1_lambda_loudest_8 : ByteArray := prog_1_method_91_code
def yX1_lambda_loudest_8 : MethodName := ⟨RX1, "lambda$loudest$8", "(I)Z"⟩
theorem dX1_lambda_loudest_8_0 : decode cX1_lambda_loudest_8 0 = .ok (.iconst 1, 1) := by decide +kernel
theorem dX1_lambda_loudest_8_1 : decode cX1_lambda_loudest_8 1 = .ok (.ireturn, 1) := by decide +kernel
abbrev cX1_lambda_loudest_9 : ByteArray := prog_1_method_90_code
def yX1_lambda_loudest_9 : MethodName := ⟨RX1, "lambda$loudest$9", "(LAcousticCamera$State;I)J"⟩
def dkwX1_lambda_loudest_9_0 : List UInt8 := [42, 27, 182, 1, 132, 173]
abbrev dktX1_lambda_loudest_9_0 : List UInt8 := dkwX1_lambda_loudest_9_0 ++ []
theorem dksX1_lambda_loudest_9_0 : cX1_lambda_loudest_9.data.toList.drop 0 = dktX1_lambda_loudest_9_0 := by decide +kernel
theorem dX1_lambda_loudest_9_0 : decode cX1_lambda_loudest_9 0 = .ok (.aload_n 0, 1) := dk_42 (dk_at dksX1_lambda_loudest_9_0 0 rfl rfl)
theorem dX1_lambda_loudest_9_1 : decode cX1_lambda_loudest_9 1 = .ok (.iload_n 1, 1) := dk_27 (dk_at dksX1_lambda_loudest_9_0 1 rfl rfl)
theorem dX1_lambda_loudest_9_2 : decode cX1_lambda_loudest_9 2 = .ok (.invokevirtual 388, 3) := dk_182 1 132 (dk_at dksX1_lambda_loudest_9_0 2 rfl rfl)
theorem dX1_lambda_loudest_9_5 : decode cX1_lambda_loudest_9 5 = .ok (.lreturn, 1) := dk_173 (dk_at dksX1_lambda_loudest_9_0 5 rfl rfl)
abbrev cX1_writeMap : ByteArray := prog_1_method_70_code
def yX1_writeMap : MethodName := ⟨RX1, "writeMap", "()I"⟩
def dkwX1_writeMap_4 : List UInt8 := [132, 4, 1, 167, 255, 187, 42, 180, 0, 78, 182, 1, 157, 172]
abbrev dktX1_writeMap_4 : List UInt8 := dkwX1_writeMap_4 ++ []
def dkwX1_writeMap_3 : List UInt8 := [32, 9, 148, 154, 0, 7, 9, 167, 0, 13, 20, 1, 152, 43, 21, 4, 47, 105, 32, 109, 182, 1, 154, 87]
abbrev dktX1_writeMap_3 : List UInt8 := dkwX1_writeMap_3 ++ dktX1_writeMap_4
def dkwX1_writeMap_2 : List UInt8 := [180, 0, 107, 180, 0, 210, 112, 154, 0, 13, 42, 180, 0, 78, 16, 59, 182, 1, 148, 87, 42, 180, 0, 78]
abbrev dktX1_writeMap_2 : List UInt8 := dkwX1_writeMap_2 ++ dktX1_writeMap_3
def dkwX1_writeMap_1 : List UInt8 := [182, 1, 145, 3, 54, 4, 21, 4, 43, 190, 162, 0, 68, 21, 4, 158, 0, 29, 21, 4, 42, 180, 0, 95]
abbrev dktX1_writeMap_1 : List UInt8 := dkwX1_writeMap_1 ++ dktX1_writeMap_2
def dkwX1_writeMap_0 : List UInt8 := [42, 182, 0, 103, 182, 1, 17, 76, 43, 42, 180, 0, 95, 182, 1, 25, 47, 65, 42, 180, 0, 78, 3]
abbrev dktX1_writeMap_0 : List UInt8 := dkwX1_writeMap_0 ++ dktX1_writeMap_1
theorem dksX1_writeMap_0 : cX1_writeMap.data.toList.drop 0 = dktX1_writeMap_0 := by decide +kernel
theorem dksX1_writeMap_1 : cX1_writeMap.data.toList.drop 23 = dktX1_writeMap_1 := dk_seg dksX1_writeMap_0 23 rfl rfl
theorem dksX1_writeMap_2 : cX1_writeMap.data.toList.drop 47 = dktX1_writeMap_2 := dk_seg dksX1_writeMap_1 24 rfl rfl
theorem dksX1_writeMap_3 : cX1_writeMap.data.toList.drop 71 = dktX1_writeMap_3 := dk_seg dksX1_writeMap_2 24 rfl rfl
theorem dksX1_writeMap_4 : cX1_writeMap.data.toList.drop 95 = dktX1_writeMap_4 := dk_seg dksX1_writeMap_3 24 rfl rfl
theorem dX1_writeMap_0 : decode cX1_writeMap 0 = .ok (.aload_n 0, 1) := dk_42 (dk_at dksX1_writeMap_0 0 rfl rfl)
theorem dX1_writeMap_1 : decode cX1_writeMap 1 = .ok (.invokevirtual 103, 3) := dk_182 0 103 (dk_at dksX1_writeMap_0 1 rfl rfl)
theorem dX1_writeMap_4 : decode cX1_writeMap 4 = .ok (.invokevirtual 273, 3) := dk_182 1 17 (dk_at dksX1_writeMap_0 4 rfl rfl)
theorem dX1_writeMap_7 : decode cX1_writeMap 7 = .ok (.astore_n 1, 1) := dk_76 (dk_at dksX1_writeMap_0 7 rfl rfl)
theorem dX1_writeMap_8 : decode cX1_writeMap 8 = .ok (.aload_n 1, 1) := dk_43 (dk_at dksX1_writeMap_0 8 rfl rfl)
theorem dX1_writeMap_9 : decode cX1_writeMap 9 = .ok (.aload_n 0, 1) := dk_42 (dk_at dksX1_writeMap_0 9 rfl rfl)
theorem dX1_writeMap_10 : decode cX1_writeMap 10 = .ok (.getfield 95, 3) := dk_180 0 95 (dk_at dksX1_writeMap_0 10 rfl rfl)
theorem dX1_writeMap_13 : decode cX1_writeMap 13 = .ok (.invokevirtual 281, 3) := dk_182 1 25 (dk_at dksX1_writeMap_0 13 rfl rfl)
theorem dX1_writeMap_16 : decode cX1_writeMap 16 = .ok (.laload, 1) := dk_47 (dk_at dksX1_writeMap_0 16 rfl rfl)
theorem dX1_writeMap_17 : decode cX1_writeMap 17 = .ok (.lstore_n 2, 1) := dk_65 (dk_at dksX1_writeMap_0 17 rfl rfl)
theorem dX1_writeMap_18 : decode cX1_writeMap 18 = .ok (.aload_n 0, 1) := dk_42 (dk_at dksX1_writeMap_0 18 rfl rfl)
theorem dX1_writeMap_19 : decode cX1_writeMap 19 = .ok (.getfield 78, 3) := dk_180 0 78 (dk_at dksX1_writeMap_0 19 rfl rfl)
theorem dX1_writeMap_22 : decode cX1_writeMap 22 = .ok (.iconst 0, 1) := dk_3 (dk_at dksX1_writeMap_0 22 rfl rfl)
theorem dX1_writeMap_23 : decode cX1_writeMap 23 = .ok (.invokevirtual 401, 3) := dk_182 1 145 (dk_at dksX1_writeMap_1 0 rfl rfl)
theorem dX1_writeMap_26 : decode cX1_writeMap 26 = .ok (.iconst 0, 1) := dk_3 (dk_at dksX1_writeMap_1 3 rfl rfl)
theorem dX1_writeMap_27 : decode cX1_writeMap 27 = .ok (.istore 4, 2) := dk_54 4 (dk_at dksX1_writeMap_1 4 rfl rfl)
theorem dX1_writeMap_29 : decode cX1_writeMap 29 = .ok (.iload 4, 2) := dk_21 4 (dk_at dksX1_writeMap_1 6 rfl rfl)
theorem dX1_writeMap_31 : decode cX1_writeMap 31 = .ok (.aload_n 1, 1) := dk_43 (dk_at dksX1_writeMap_1 8 rfl rfl)
theorem dX1_writeMap_32 : decode cX1_writeMap 32 = .ok (.arraylength, 1) := dk_190 (dk_at dksX1_writeMap_1 9 rfl rfl)
theorem dX1_writeMap_33 : decode cX1_writeMap 33 = .ok (.if_icmp .ge 68, 3) := dk_162 0 68 (dk_at dksX1_writeMap_1 10 rfl rfl)
theorem dX1_writeMap_36 : decode cX1_writeMap 36 = .ok (.iload 4, 2) := dk_21 4 (dk_at dksX1_writeMap_1 13 rfl rfl)
theorem dX1_writeMap_38 : decode cX1_writeMap 38 = .ok (.ifCond .le 29, 3) := dk_158 0 29 (dk_at dksX1_writeMap_1 15 rfl rfl)
theorem dX1_writeMap_41 : decode cX1_writeMap 41 = .ok (.iload 4, 2) := dk_21 4 (dk_at dksX1_writeMap_1 18 rfl rfl)
theorem dX1_writeMap_43 : decode cX1_writeMap 43 = .ok (.aload_n 0, 1) := dk_42 (dk_at dksX1_writeMap_1 20 rfl rfl)
theorem dX1_writeMap_44 : decode cX1_writeMap 44 = .ok (.getfield 95, 3) := dk_180 0 95 (dk_at dksX1_writeMap_1 21 rfl rfl)
theorem dX1_writeMap_47 : decode cX1_writeMap 47 = .ok (.getfield 107, 3) := dk_180 0 107 (dk_at dksX1_writeMap_2 0 rfl rfl)
theorem dX1_writeMap_50 : decode cX1_writeMap 50 = .ok (.getfield 210, 3) := dk_180 0 210 (dk_at dksX1_writeMap_2 3 rfl rfl)
theorem dX1_writeMap_53 : decode cX1_writeMap 53 = .ok (.irem, 1) := dk_112 (dk_at dksX1_writeMap_2 6 rfl rfl)
theorem dX1_writeMap_54 : decode cX1_writeMap 54 = .ok (.ifCond .ne 13, 3) := dk_154 0 13 (dk_at dksX1_writeMap_2 7 rfl rfl)
theorem dX1_writeMap_57 : decode cX1_writeMap 57 = .ok (.aload_n 0, 1) := dk_42 (dk_at dksX1_writeMap_2 10 rfl rfl)
theorem dX1_writeMap_58 : decode cX1_writeMap 58 = .ok (.getfield 78, 3) := dk_180 0 78 (dk_at dksX1_writeMap_2 11 rfl rfl)
theorem dX1_writeMap_61 : decode cX1_writeMap 61 = .ok (.bipush 59, 2) := dk_16 59 (dk_at dksX1_writeMap_2 14 rfl rfl)
theorem dX1_writeMap_63 : decode cX1_writeMap 63 = .ok (.invokevirtual 404, 3) := dk_182 1 148 (dk_at dksX1_writeMap_2 16 rfl rfl)
theorem dX1_writeMap_66 : decode cX1_writeMap 66 = .ok (.pop, 1) := dk_87 (dk_at dksX1_writeMap_2 19 rfl rfl)
theorem dX1_writeMap_67 : decode cX1_writeMap 67 = .ok (.aload_n 0, 1) := dk_42 (dk_at dksX1_writeMap_2 20 rfl rfl)
theorem dX1_writeMap_68 : decode cX1_writeMap 68 = .ok (.getfield 78, 3) := dk_180 0 78 (dk_at dksX1_writeMap_2 21 rfl rfl)
theorem dX1_writeMap_71 : decode cX1_writeMap 71 = .ok (.lload_n 2, 1) := dk_32 (dk_at dksX1_writeMap_3 0 rfl rfl)
theorem dX1_writeMap_72 : decode cX1_writeMap 72 = .ok (.lconst 0, 1) := dk_9 (dk_at dksX1_writeMap_3 1 rfl rfl)
theorem dX1_writeMap_73 : decode cX1_writeMap 73 = .ok (.lcmp, 1) := dk_148 (dk_at dksX1_writeMap_3 2 rfl rfl)
theorem dX1_writeMap_74 : decode cX1_writeMap 74 = .ok (.ifCond .ne 7, 3) := dk_154 0 7 (dk_at dksX1_writeMap_3 3 rfl rfl)
theorem dX1_writeMap_77 : decode cX1_writeMap 77 = .ok (.lconst 0, 1) := dk_9 (dk_at dksX1_writeMap_3 6 rfl rfl)
theorem dX1_writeMap_78 : decode cX1_writeMap 78 = .ok (.goto 13, 3) := dk_167 0 13 (dk_at dksX1_writeMap_3 7 rfl rfl)
theorem dX1_writeMap_81 : decode cX1_writeMap 81 = .ok (.ldc2_w 408, 3) := dk_20 1 152 (dk_at dksX1_writeMap_3 10 rfl rfl)
theorem dX1_writeMap_84 : decode cX1_writeMap 84 = .ok (.aload_n 1, 1) := dk_43 (dk_at dksX1_writeMap_3 13 rfl rfl)
theorem dX1_writeMap_85 : decode cX1_writeMap 85 = .ok (.iload 4, 2) := dk_21 4 (dk_at dksX1_writeMap_3 14 rfl rfl)
theorem dX1_writeMap_87 : decode cX1_writeMap 87 = .ok (.laload, 1) := dk_47 (dk_at dksX1_writeMap_3 16 rfl rfl)
theorem dX1_writeMap_88 : decode cX1_writeMap 88 = .ok (.lmul, 1) := dk_105 (dk_at dksX1_writeMap_3 17 rfl rfl)
theorem dX1_writeMap_89 : decode cX1_writeMap 89 = .ok (.lload_n 2, 1) := dk_32 (dk_at dksX1_writeMap_3 18 rfl rfl)
theorem dX1_writeMap_90 : decode cX1_writeMap 90 = .ok (.ldiv, 1) := dk_109 (dk_at dksX1_writeMap_3 19 rfl rfl)
theorem dX1_writeMap_91 : decode cX1_writeMap 91 = .ok (.invokevirtual 410, 3) := dk_182 1 154 (dk_at dksX1_writeMap_3 20 rfl rfl)
theorem dX1_writeMap_94 : decode cX1_writeMap 94 = .ok (.pop, 1) := dk_87 (dk_at dksX1_writeMap_3 23 rfl rfl)
theorem dX1_writeMap_95 : decode cX1_writeMap 95 = .ok (.iinc 4 1, 3) := dk_132 4 1 (dk_at dksX1_writeMap_4 0 rfl rfl)
theorem dX1_writeMap_98 : decode cX1_writeMap 98 = .ok (.goto (-69), 3) := dk_167 255 187 (dk_at dksX1_writeMap_4 3 rfl rfl)
theorem dX1_writeMap_101 : decode cX1_writeMap 101 = .ok (.aload_n 0, 1) := dk_42 (dk_at dksX1_writeMap_4 6 rfl rfl)
theorem dX1_writeMap_102 : decode cX1_writeMap 102 = .ok (.getfield 78, 3) := dk_180 0 78 (dk_at dksX1_writeMap_4 7 rfl rfl)
theorem dX1_writeMap_105 : decode cX1_writeMap 105 = .ok (.invokevirtual 413, 3) := dk_182 1 157 (dk_at dksX1_writeMap_4 10 rfl rfl)
theorem dX1_writeMap_108 : decode cX1_writeMap 108 = .ok (.ireturn, 1) := dk_172 (dk_at dksX1_writeMap_4 13 rfl rfl)
abbrev cX1_mapByte : ByteArray := prog_1_method_71_code
def yX1_mapByte : MethodName := ⟨RX1, "mapByte", "(I)I"⟩
def dkwX1_mapByte_0 : List UInt8 := [27, 42, 180, 0, 78, 182, 1, 157, 184, 0, 122, 42, 180, 0, 78, 27, 182, 1, 160, 172]
abbrev dktX1_mapByte_0 : List UInt8 := dkwX1_mapByte_0 ++ []
theorem dksX1_mapByte_0 : cX1_mapByte.data.toList.drop 0 = dktX1_mapByte_0 := by decide +kernel
theorem dX1_mapByte_0 : decode cX1_mapByte 0 = .ok (.iload_n 1, 1) := dk_27 (dk_at dksX1_mapByte_0 0 rfl rfl)
theorem dX1_mapByte_1 : decode cX1_mapByte 1 = .ok (.aload_n 0, 1) := dk_42 (dk_at dksX1_mapByte_0 1 rfl rfl)
theorem dX1_mapByte_2 : decode cX1_mapByte 2 = .ok (.getfield 78, 3) := dk_180 0 78 (dk_at dksX1_mapByte_0 2 rfl rfl)
theorem dX1_mapByte_5 : decode cX1_mapByte 5 = .ok (.invokevirtual 413, 3) := dk_182 1 157 (dk_at dksX1_mapByte_0 5 rfl rfl)
theorem dX1_mapByte_8 : decode cX1_mapByte 8 = .ok (.invokestatic 122, 3) := dk_184 0 122 (dk_at dksX1_mapByte_0 8 rfl rfl)
theorem dX1_mapByte_11 : decode cX1_mapByte 11 = .ok (.aload_n 0, 1) := dk_42 (dk_at dksX1_mapByte_0 11 rfl rfl)
theorem dX1_mapByte_12 : decode cX1_mapByte 12 = .ok (.getfield 78, 3) := dk_180 0 78 (dk_at dksX1_mapByte_0 12 rfl rfl)
theorem dX1_mapByte_15 : decode cX1_mapByte 15 = .ok (.iload_n 1, 1) := dk_27 (dk_at dksX1_mapByte_0 15 rfl rfl)
theorem dX1_mapByte_16 : decode cX1_mapByte 16 = .ok (.invokevirtual 416, 3) := dk_182 1 160 (dk_at dksX1_mapByte_0 16 rfl rfl)
theorem dX1_mapByte_19 : decode cX1_mapByte 19 = .ok (.ireturn, 1) := dk_172 (dk_at dksX1_mapByte_0 19 rfl rfl)
abbrev cX1_pointBest : ByteArray := prog_1_method_73_code
def yX1_pointBest : MethodName := ⟨RX1, "pointBest", "(II)I"⟩
def dkwX1_pointBest_0 : List UInt8 := [42, 27, 182, 0, 137, 87, 28, 184, 1, 66, 184, 0, 185, 42, 27, 28, 182, 1, 183, 182, 1, 25, 172]
abbrev dktX1_pointBest_0 : List UInt8 := dkwX1_pointBest_0 ++ []
theorem dksX1_pointBest_0 : cX1_pointBest.data.toList.drop 0 = dktX1_pointBest_0 := by decide +kernel
theorem dX1_pointBest_0 : decode cX1_pointBest 0 = .ok (.aload_n 0, 1) := dk_42 (dk_at dksX1_pointBest_0 0 rfl rfl)
theorem dX1_pointBest_1 : decode cX1_pointBest 1 = .ok (.iload_n 1, 1) := dk_27 (dk_at dksX1_pointBest_0 1 rfl rfl)
theorem dX1_pointBest_2 : decode cX1_pointBest 2 = .ok (.invokevirtual 137, 3) := dk_182 0 137 (dk_at dksX1_pointBest_0 2 rfl rfl)
theorem dX1_pointBest_5 : decode cX1_pointBest 5 = .ok (.pop, 1) := dk_87 (dk_at dksX1_pointBest_0 5 rfl rfl)
theorem dX1_pointBest_6 : decode cX1_pointBest 6 = .ok (.iload_n 2, 1) := dk_28 (dk_at dksX1_pointBest_0 6 rfl rfl)
theorem dX1_pointBest_7 : decode cX1_pointBest 7 = .ok (.invokestatic 322, 3) := dk_184 1 66 (dk_at dksX1_pointBest_0 7 rfl rfl)
theorem dX1_pointBest_10 : decode cX1_pointBest 10 = .ok (.invokestatic 185, 3) := dk_184 0 185 (dk_at dksX1_pointBest_0 10 rfl rfl)
theorem dX1_pointBest_13 : decode cX1_pointBest 13 = .ok (.aload_n 0, 1) := dk_42 (dk_at dksX1_pointBest_0 13 rfl rfl)
theorem dX1_pointBest_14 : decode cX1_pointBest 14 = .ok (.iload_n 1, 1) := dk_27 (dk_at dksX1_pointBest_0 14 rfl rfl)
theorem dX1_pointBest_15 : decode cX1_pointBest 15 = .ok (.iload_n 2, 1) := dk_28 (dk_at dksX1_pointBest_0 15 rfl rfl)
theorem dX1_pointBest_16 : decode cX1_pointBest 16 = .ok (.invokevirtual 439, 3) := dk_182 1 183 (dk_at dksX1_pointBest_0 16 rfl rfl)
theorem dX1_pointBest_19 : decode cX1_pointBest 19 = .ok (.invokevirtual 281, 3) := dk_182 1 25 (dk_at dksX1_pointBest_0 19 rfl rfl)
theorem dX1_pointBest_22 : decode cX1_pointBest 22 = .ok (.ireturn, 1) := dk_172 (dk_at dksX1_pointBest_0 22 rfl rfl)
abbrev cX1_pointed : ByteArray := prog_1_method_72_code
def yX1_pointed : MethodName := ⟨RX1, "pointed", "(II)LAcousticCamera$State;"⟩
def dkwX1_pointed_3 : List UInt8 := [45, 25, 5, 21, 6, 182, 1, 177, 45, 21, 6, 182, 1, 180, 132, 6, 1, 167, 255, 229, 45, 176]
abbrev dktX1_pointed_3 : List UInt8 := dkwX1_pointed_3 ++ []
def dkwX1_pointed_2 : List UInt8 := [45, 180, 0, 237, 182, 1, 176, 45, 182, 0, 169, 3, 54, 6, 21, 6, 45, 180, 0, 203, 190, 162, 0, 23]
abbrev dktX1_pointed_2 : List UInt8 := dkwX1_pointed_2 ++ dktX1_pointed_3
def dkwX1_pointed_1 : List UInt8 := [3, 184, 1, 167, 3, 25, 4, 27, 182, 0, 216, 25, 4, 27, 182, 0, 220, 3, 3, 183, 1, 173, 58, 5]
abbrev dktX1_pointed_1 : List UInt8 := dkwX1_pointed_1 ++ dktX1_pointed_2
def dkwX1_pointed_0 : List UInt8 := [42, 180, 0, 95, 182, 1, 164, 78, 42, 180, 0, 95, 180, 0, 107, 58, 4, 187, 0, 230, 89, 16, 100, 28]
abbrev dktX1_pointed_0 : List UInt8 := dkwX1_pointed_0 ++ dktX1_pointed_1
theorem dksX1_pointed_0 : cX1_pointed.data.toList.drop 0 = dktX1_pointed_0 := by decide +kernel
theorem dksX1_pointed_1 : cX1_pointed.data.toList.drop 24 = dktX1_pointed_1 := dk_seg dksX1_pointed_0 24 rfl rfl
theorem dksX1_pointed_2 : cX1_pointed.data.toList.drop 48 = dktX1_pointed_2 := dk_seg dksX1_pointed_1 24 rfl rfl
theorem dksX1_pointed_3 : cX1_pointed.data.toList.drop 72 = dktX1_pointed_3 := dk_seg dksX1_pointed_2 24 rfl rfl
theorem dX1_pointed_0 : decode cX1_pointed 0 = .ok (.aload_n 0, 1) := dk_42 (dk_at dksX1_pointed_0 0 rfl rfl)
theorem dX1_pointed_1 : decode cX1_pointed 1 = .ok (.getfield 95, 3) := dk_180 0 95 (dk_at dksX1_pointed_0 1 rfl rfl)
theorem dX1_pointed_4 : decode cX1_pointed 4 = .ok (.invokevirtual 420, 3) := dk_182 1 164 (dk_at dksX1_pointed_0 4 rfl rfl)
theorem dX1_pointed_7 : decode cX1_pointed 7 = .ok (.astore_n 3, 1) := dk_78 (dk_at dksX1_pointed_0 7 rfl rfl)
theorem dX1_pointed_8 : decode cX1_pointed 8 = .ok (.aload_n 0, 1) := dk_42 (dk_at dksX1_pointed_0 8 rfl rfl)
theorem dX1_pointed_9 : decode cX1_pointed 9 = .ok (.getfield 95, 3) := dk_180 0 95 (dk_at dksX1_pointed_0 9 rfl rfl)
theorem dX1_pointed_12 : decode cX1_pointed 12 = .ok (.getfield 107, 3) := dk_180 0 107 (dk_at dksX1_pointed_0 12 rfl rfl)
theorem dX1_pointed_15 : decode cX1_pointed 15 = .ok (.astore 4, 2) := dk_58 4 (dk_at dksX1_pointed_0 15 rfl rfl)
theorem dX1_pointed_17 : decode cX1_pointed 17 = .ok (.new 230, 3) := dk_187 0 230 (dk_at dksX1_pointed_0 17 rfl rfl)
theorem dX1_pointed_20 : decode cX1_pointed 20 = .ok (.dup, 1) := dk_89 (dk_at dksX1_pointed_0 20 rfl rfl)
theorem dX1_pointed_21 : decode cX1_pointed 21 = .ok (.bipush 100, 2) := dk_16 100 (dk_at dksX1_pointed_0 21 rfl rfl)
theorem dX1_pointed_23 : decode cX1_pointed 23 = .ok (.iload_n 2, 1) := dk_28 (dk_at dksX1_pointed_0 23 rfl rfl)
theorem dX1_pointed_24 : decode cX1_pointed 24 = .ok (.iconst 0, 1) := dk_3 (dk_at dksX1_pointed_1 0 rfl rfl)
theorem dX1_pointed_25 : decode cX1_pointed 25 = .ok (.invokestatic 423, 3) := dk_184 1 167 (dk_at dksX1_pointed_1 1 rfl rfl)
theorem dX1_pointed_28 : decode cX1_pointed 28 = .ok (.iconst 0, 1) := dk_3 (dk_at dksX1_pointed_1 4 rfl rfl)
theorem dX1_pointed_29 : decode cX1_pointed 29 = .ok (.aload 4, 2) := dk_25 4 (dk_at dksX1_pointed_1 5 rfl rfl)
theorem dX1_pointed_31 : decode cX1_pointed 31 = .ok (.iload_n 1, 1) := dk_27 (dk_at dksX1_pointed_1 7 rfl rfl)
theorem dX1_pointed_32 : decode cX1_pointed 32 = .ok (.invokevirtual 216, 3) := dk_182 0 216 (dk_at dksX1_pointed_1 8 rfl rfl)
theorem dX1_pointed_35 : decode cX1_pointed 35 = .ok (.aload 4, 2) := dk_25 4 (dk_at dksX1_pointed_1 11 rfl rfl)
theorem dX1_pointed_37 : decode cX1_pointed 37 = .ok (.iload_n 1, 1) := dk_27 (dk_at dksX1_pointed_1 13 rfl rfl)
theorem dX1_pointed_38 : decode cX1_pointed 38 = .ok (.invokevirtual 220, 3) := dk_182 0 220 (dk_at dksX1_pointed_1 14 rfl rfl)
theorem dX1_pointed_41 : decode cX1_pointed 41 = .ok (.iconst 0, 1) := dk_3 (dk_at dksX1_pointed_1 17 rfl rfl)
theorem dX1_pointed_42 : decode cX1_pointed 42 = .ok (.iconst 0, 1) := dk_3 (dk_at dksX1_pointed_1 18 rfl rfl)
theorem dX1_pointed_43 : decode cX1_pointed 43 = .ok (.invokespecial 429, 3) := dk_183 1 173 (dk_at dksX1_pointed_1 19 rfl rfl)
theorem dX1_pointed_46 : decode cX1_pointed 46 = .ok (.astore 5, 2) := dk_58 5 (dk_at dksX1_pointed_1 22 rfl rfl)
theorem dX1_pointed_48 : decode cX1_pointed 48 = .ok (.aload_n 3, 1) := dk_45 (dk_at dksX1_pointed_2 0 rfl rfl)
theorem dX1_pointed_49 : decode cX1_pointed 49 = .ok (.getfield 237, 3) := dk_180 0 237 (dk_at dksX1_pointed_2 1 rfl rfl)
theorem dX1_pointed_52 : decode cX1_pointed 52 = .ok (.invokevirtual 432, 3) := dk_182 1 176 (dk_at dksX1_pointed_2 4 rfl rfl)
theorem dX1_pointed_55 : decode cX1_pointed 55 = .ok (.aload_n 3, 1) := dk_45 (dk_at dksX1_pointed_2 7 rfl rfl)
theorem dX1_pointed_56 : decode cX1_pointed 56 = .ok (.invokevirtual 169, 3) := dk_182 0 169 (dk_at dksX1_pointed_2 8 rfl rfl)
theorem dX1_pointed_59 : decode cX1_pointed 59 = .ok (.iconst 0, 1) := dk_3 (dk_at dksX1_pointed_2 11 rfl rfl)
theorem dX1_pointed_60 : decode cX1_pointed 60 = .ok (.istore 6, 2) := dk_54 6 (dk_at dksX1_pointed_2 12 rfl rfl)
theorem dX1_pointed_62 : decode cX1_pointed 62 = .ok (.iload 6, 2) := dk_21 6 (dk_at dksX1_pointed_2 14 rfl rfl)
theorem dX1_pointed_64 : decode cX1_pointed 64 = .ok (.aload_n 3, 1) := dk_45 (dk_at dksX1_pointed_2 16 rfl rfl)
theorem dX1_pointed_65 : decode cX1_pointed 65 = .ok (.getfield 203, 3) := dk_180 0 203 (dk_at dksX1_pointed_2 17 rfl rfl)
theorem dX1_pointed_68 : decode cX1_pointed 68 = .ok (.arraylength, 1) := dk_190 (dk_at dksX1_pointed_2 20 rfl rfl)
theorem dX1_pointed_69 : decode cX1_pointed 69 = .ok (.if_icmp .ge 23, 3) := dk_162 0 23 (dk_at dksX1_pointed_2 21 rfl rfl)
theorem dX1_pointed_72 : decode cX1_pointed 72 = .ok (.aload_n 3, 1) := dk_45 (dk_at dksX1_pointed_3 0 rfl rfl)
theorem dX1_pointed_73 : decode cX1_pointed 73 = .ok (.aload 5, 2) := dk_25 5 (dk_at dksX1_pointed_3 1 rfl rfl)
theorem dX1_pointed_75 : decode cX1_pointed 75 = .ok (.iload 6, 2) := dk_21 6 (dk_at dksX1_pointed_3 3 rfl rfl)
theorem dX1_pointed_77 : decode cX1_pointed 77 = .ok (.invokevirtual 433, 3) := dk_182 1 177 (dk_at dksX1_pointed_3 5 rfl rfl)
theorem dX1_pointed_80 : decode cX1_pointed 80 = .ok (.aload_n 3, 1) := dk_45 (dk_at dksX1_pointed_3 8 rfl rfl)
theorem dX1_pointed_81 : decode cX1_pointed 81 = .ok (.iload 6, 2) := dk_21 6 (dk_at dksX1_pointed_3 9 rfl rfl)
theorem dX1_pointed_83 : decode cX1_pointed 83 = .ok (.invokevirtual 436, 3) := dk_182 1 180 (dk_at dksX1_pointed_3 11 rfl rfl)
theorem dX1_pointed_86 : decode cX1_pointed 86 = .ok (.iinc 6 1, 3) := dk_132 6 1 (dk_at dksX1_pointed_3 14 rfl rfl)
theorem dX1_pointed_89 : decode cX1_pointed 89 = .ok (.goto (-27), 3) := dk_167 255 229 (dk_at dksX1_pointed_3 17 rfl rfl)
theorem dX1_pointed_92 : decode cX1_pointed 92 = .ok (.aload_n 3, 1) := dk_45 (dk_at dksX1_pointed_3 20 rfl rfl)
theorem dX1_pointed_93 : decode cX1_pointed 93 = .ok (.areturn, 1) := dk_176 (dk_at dksX1_pointed_3 21 rfl rfl)
abbrev cX1_pointPower : ByteArray := prog_1_method_74_code
def yX1_pointPower : MethodName := ⟨RX1, "pointPower", "(III)J"⟩
def dkwX1_pointPower_1 : List UInt8 := [47, 173]
abbrev dktX1_pointPower_1 : List UInt8 := dkwX1_pointPower_1 ++ []
def dkwX1_pointPower_0 : List UInt8 := [42, 27, 28, 182, 1, 62, 87, 29, 184, 1, 66, 184, 0, 185, 42, 27, 29, 182, 1, 183, 182, 1, 17, 28]
abbrev dktX1_pointPower_0 : List UInt8 := dkwX1_pointPower_0 ++ dktX1_pointPower_1
theorem dksX1_pointPower_0 : cX1_pointPower.data.toList.drop 0 = dktX1_pointPower_0 := by decide +kernel
theorem dksX1_pointPower_1 : cX1_pointPower.data.toList.drop 24 = dktX1_pointPower_1 := dk_seg dksX1_pointPower_0 24 rfl rfl
theorem dX1_pointPower_0 : decode cX1_pointPower 0 = .ok (.aload_n 0, 1) := dk_42 (dk_at dksX1_pointPower_0 0 rfl rfl)
theorem dX1_pointPower_1 : decode cX1_pointPower 1 = .ok (.iload_n 1, 1) := dk_27 (dk_at dksX1_pointPower_0 1 rfl rfl)
theorem dX1_pointPower_2 : decode cX1_pointPower 2 = .ok (.iload_n 2, 1) := dk_28 (dk_at dksX1_pointPower_0 2 rfl rfl)
theorem dX1_pointPower_3 : decode cX1_pointPower 3 = .ok (.invokevirtual 318, 3) := dk_182 1 62 (dk_at dksX1_pointPower_0 3 rfl rfl)
theorem dX1_pointPower_6 : decode cX1_pointPower 6 = .ok (.pop, 1) := dk_87 (dk_at dksX1_pointPower_0 6 rfl rfl)
theorem dX1_pointPower_7 : decode cX1_pointPower 7 = .ok (.iload_n 3, 1) := dk_29 (dk_at dksX1_pointPower_0 7 rfl rfl)
theorem dX1_pointPower_8 : decode cX1_pointPower 8 = .ok (.invokestatic 322, 3) := dk_184 1 66 (dk_at dksX1_pointPower_0 8 rfl rfl)
theorem dX1_pointPower_11 : decode cX1_pointPower 11 = .ok (.invokestatic 185, 3) := dk_184 0 185 (dk_at dksX1_pointPower_0 11 rfl rfl)
theorem dX1_pointPower_14 : decode cX1_pointPower 14 = .ok (.aload_n 0, 1) := dk_42 (dk_at dksX1_pointPower_0 14 rfl rfl)
theorem dX1_pointPower_15 : decode cX1_pointPower 15 = .ok (.iload_n 1, 1) := dk_27 (dk_at dksX1_pointPower_0 15 rfl rfl)
theorem dX1_pointPower_16 : decode cX1_pointPower 16 = .ok (.iload_n 3, 1) := dk_29 (dk_at dksX1_pointPower_0 16 rfl rfl)
theorem dX1_pointPower_17 : decode cX1_pointPower 17 = .ok (.invokevirtual 439, 3) := dk_182 1 183 (dk_at dksX1_pointPower_0 17 rfl rfl)
theorem dX1_pointPower_20 : decode cX1_pointPower 20 = .ok (.invokevirtual 273, 3) := dk_182 1 17 (dk_at dksX1_pointPower_0 20 rfl rfl)
theorem dX1_pointPower_23 : decode cX1_pointPower 23 = .ok (.iload_n 2, 1) := dk_28 (dk_at dksX1_pointPower_0 23 rfl rfl)
theorem dX1_pointPower_24 : decode cX1_pointPower 24 = .ok (.laload, 1) := dk_47 (dk_at dksX1_pointPower_1 0 rfl rfl)
theorem dX1_pointPower_25 : decode cX1_pointPower 25 = .ok (.lreturn, 1) := dk_173 (dk_at dksX1_pointPower_1 1 rfl rfl)
abbrev cX1_bestWithout : ByteArray := prog_1_method_75_code
def yX1_bestWithout : MethodName := ⟨RX1, "bestWithout", "(I)I"⟩
def dkwX1_bestWithout_1 : List UInt8 := [182, 1, 25, 172]
abbrev dktX1_bestWithout_1 : List UInt8 := dkwX1_bestWithout_1 ++ []
def dkwX1_bestWithout_0 : List UInt8 := [42, 27, 182, 0, 133, 182, 1, 164, 77, 44, 180, 1, 186, 27, 182, 1, 189, 44, 1, 181, 1, 192, 44]
abbrev dktX1_bestWithout_0 : List UInt8 := dkwX1_bestWithout_0 ++ dktX1_bestWithout_1
theorem dksX1_bestWithout_0 : cX1_bestWithout.data.toList.drop 0 = dktX1_bestWithout_0 := by decide +kernel
theorem dksX1_bestWithout_1 : cX1_bestWithout.data.toList.drop 23 = dktX1_bestWithout_1 := dk_seg dksX1_bestWithout_0 23 rfl rfl
theorem dX1_bestWithout_0 : decode cX1_bestWithout 0 = .ok (.aload_n 0, 1) := dk_42 (dk_at dksX1_bestWithout_0 0 rfl rfl)
theorem dX1_bestWithout_1 : decode cX1_bestWithout 1 = .ok (.iload_n 1, 1) := dk_27 (dk_at dksX1_bestWithout_0 1 rfl rfl)
theorem dX1_bestWithout_2 : decode cX1_bestWithout 2 = .ok (.invokevirtual 133, 3) := dk_182 0 133 (dk_at dksX1_bestWithout_0 2 rfl rfl)
theorem dX1_bestWithout_5 : decode cX1_bestWithout 5 = .ok (.invokevirtual 420, 3) := dk_182 1 164 (dk_at dksX1_bestWithout_0 5 rfl rfl)
theorem dX1_bestWithout_8 : decode cX1_bestWithout 8 = .ok (.astore_n 2, 1) := dk_77 (dk_at dksX1_bestWithout_0 8 rfl rfl)
theorem dX1_bestWithout_9 : decode cX1_bestWithout 9 = .ok (.aload_n 2, 1) := dk_44 (dk_at dksX1_bestWithout_0 9 rfl rfl)
theorem dX1_bestWithout_10 : decode cX1_bestWithout 10 = .ok (.getfield 442, 3) := dk_180 1 186 (dk_at dksX1_bestWithout_0 10 rfl rfl)
theorem dX1_bestWithout_13 : decode cX1_bestWithout 13 = .ok (.iload_n 1, 1) := dk_27 (dk_at dksX1_bestWithout_0 13 rfl rfl)
theorem dX1_bestWithout_14 : decode cX1_bestWithout 14 = .ok (.invokevirtual 445, 3) := dk_182 1 189 (dk_at dksX1_bestWithout_0 14 rfl rfl)
theorem dX1_bestWithout_17 : decode cX1_bestWithout 17 = .ok (.aload_n 2, 1) := dk_44 (dk_at dksX1_bestWithout_0 17 rfl rfl)
theorem dX1_bestWithout_18 : decode cX1_bestWithout 18 = .ok (.aconst_null, 1) := dk_1 (dk_at dksX1_bestWithout_0 18 rfl rfl)
theorem dX1_bestWithout_19 : decode cX1_bestWithout 19 = .ok (.putfield 448, 3) := dk_181 1 192 (dk_at dksX1_bestWithout_0 19 rfl rfl)
theorem dX1_bestWithout_22 : decode cX1_bestWithout 22 = .ok (.aload_n 2, 1) := dk_44 (dk_at dksX1_bestWithout_0 22 rfl rfl)
theorem dX1_bestWithout_23 : decode cX1_bestWithout 23 = .ok (.invokevirtual 281, 3) := dk_182 1 25 (dk_at dksX1_bestWithout_1 0 rfl rfl)
theorem dX1_bestWithout_26 : decode cX1_bestWithout 26 = .ok (.ireturn, 1) := dk_172 (dk_at dksX1_bestWithout_1 3 rfl rfl)
abbrev cX1_bestIfOff : ByteArray := prog_1_method_76_code
def yX1_bestIfOff : MethodName := ⟨RX1, "bestIfOff", "(I)I"⟩
def dkwX1_bestIfOff_1 : List UInt8 := [182, 1, 25, 172]
abbrev dktX1_bestIfOff_1 : List UInt8 := dkwX1_bestIfOff_1 ++ []
def dkwX1_bestIfOff_0 : List UInt8 := [42, 27, 182, 0, 223, 182, 1, 164, 77, 44, 180, 0, 237, 27, 182, 1, 195, 44, 182, 0, 169, 44]
abbrev dktX1_bestIfOff_0 : List UInt8 := dkwX1_bestIfOff_0 ++ dktX1_bestIfOff_1
theorem dksX1_bestIfOff_0 : cX1_bestIfOff.data.toList.drop 0 = dktX1_bestIfOff_0 := by decide +kernel
theorem dksX1_bestIfOff_1 : cX1_bestIfOff.data.toList.drop 22 = dktX1_bestIfOff_1 := dk_seg dksX1_bestIfOff_0 22 rfl rfl
theorem dX1_bestIfOff_0 : decode cX1_bestIfOff 0 = .ok (.aload_n 0, 1) := dk_42 (dk_at dksX1_bestIfOff_0 0 rfl rfl)
theorem dX1_bestIfOff_1 : decode cX1_bestIfOff 1 = .ok (.iload_n 1, 1) := dk_27 (dk_at dksX1_bestIfOff_0 1 rfl rfl)
theorem dX1_bestIfOff_2 : decode cX1_bestIfOff 2 = .ok (.invokevirtual 223, 3) := dk_182 0 223 (dk_at dksX1_bestIfOff_0 2 rfl rfl)
theorem dX1_bestIfOff_5 : decode cX1_bestIfOff 5 = .ok (.invokevirtual 420, 3) := dk_182 1 164 (dk_at dksX1_bestIfOff_0 5 rfl rfl)
theorem dX1_bestIfOff_8 : decode cX1_bestIfOff 8 = .ok (.astore_n 2, 1) := dk_77 (dk_at dksX1_bestIfOff_0 8 rfl rfl)
theorem dX1_bestIfOff_9 : decode cX1_bestIfOff 9 = .ok (.aload_n 2, 1) := dk_44 (dk_at dksX1_bestIfOff_0 9 rfl rfl)
theorem dX1_bestIfOff_10 : decode cX1_bestIfOff 10 = .ok (.getfield 237, 3) := dk_180 0 237 (dk_at dksX1_bestIfOff_0 10 rfl rfl)
theorem dX1_bestIfOff_13 : decode cX1_bestIfOff 13 = .ok (.iload_n 1, 1) := dk_27 (dk_at dksX1_bestIfOff_0 13 rfl rfl)
theorem dX1_bestIfOff_14 : decode cX1_bestIfOff 14 = .ok (.invokevirtual 451, 3) := dk_182 1 195 (dk_at dksX1_bestIfOff_0 14 rfl rfl)
theorem dX1_bestIfOff_17 : decode cX1_bestIfOff 17 = .ok (.aload_n 2, 1) := dk_44 (dk_at dksX1_bestIfOff_0 17 rfl rfl)
theorem dX1_bestIfOff_18 : decode cX1_bestIfOff 18 = .ok (.invokevirtual 169, 3) := dk_182 0 169 (dk_at dksX1_bestIfOff_0 18 rfl rfl)
theorem dX1_bestIfOff_21 : decode cX1_bestIfOff 21 = .ok (.aload_n 2, 1) := dk_44 (dk_at dksX1_bestIfOff_0 21 rfl rfl)
theorem dX1_bestIfOff_22 : decode cX1_bestIfOff 22 = .ok (.invokevirtual 281, 3) := dk_182 1 25 (dk_at dksX1_bestIfOff_1 0 rfl rfl)
theorem dX1_bestIfOff_25 : decode cX1_bestIfOff 25 = .ok (.ireturn, 1) := dk_172 (dk_at dksX1_bestIfOff_1 3 rfl rfl)
abbrev cX1_mute : ByteArray := prog_1_method_78_code
def yX1_mute : MethodName := ⟨RX1, "mute", "(IZ)Z"⟩
def dkwX1_mute_1 : List UInt8 := [27, 28, 182, 1, 208, 42, 180, 0, 95, 1, 181, 1, 192, 29, 172]
abbrev dktX1_mute_1 : List UInt8 := dkwX1_mute_1 ++ []
def dkwX1_mute_0 : List UInt8 := [42, 27, 182, 0, 133, 180, 1, 186, 27, 182, 0, 241, 62, 42, 182, 1, 205, 42, 180, 0, 95, 180, 1, 186]
abbrev dktX1_mute_0 : List UInt8 := dkwX1_mute_0 ++ dktX1_mute_1
theorem dksX1_mute_0 : cX1_mute.data.toList.drop 0 = dktX1_mute_0 := by decide +kernel
theorem dksX1_mute_1 : cX1_mute.data.toList.drop 24 = dktX1_mute_1 := dk_seg dksX1_mute_0 24 rfl rfl
theorem dX1_mute_0 : decode cX1_mute 0 = .ok (.aload_n 0, 1) := dk_42 (dk_at dksX1_mute_0 0 rfl rfl)
theorem dX1_mute_1 : decode cX1_mute 1 = .ok (.iload_n 1, 1) := dk_27 (dk_at dksX1_mute_0 1 rfl rfl)
theorem dX1_mute_2 : decode cX1_mute 2 = .ok (.invokevirtual 133, 3) := dk_182 0 133 (dk_at dksX1_mute_0 2 rfl rfl)
theorem dX1_mute_5 : decode cX1_mute 5 = .ok (.getfield 442, 3) := dk_180 1 186 (dk_at dksX1_mute_0 5 rfl rfl)
theorem dX1_mute_8 : decode cX1_mute 8 = .ok (.iload_n 1, 1) := dk_27 (dk_at dksX1_mute_0 8 rfl rfl)
theorem dX1_mute_9 : decode cX1_mute 9 = .ok (.invokevirtual 241, 3) := dk_182 0 241 (dk_at dksX1_mute_0 9 rfl rfl)
theorem dX1_mute_12 : decode cX1_mute 12 = .ok (.istore_n 3, 1) := dk_62 (dk_at dksX1_mute_0 12 rfl rfl)
theorem dX1_mute_13 : decode cX1_mute 13 = .ok (.aload_n 0, 1) := dk_42 (dk_at dksX1_mute_0 13 rfl rfl)
theorem dX1_mute_14 : decode cX1_mute 14 = .ok (.invokevirtual 461, 3) := dk_182 1 205 (dk_at dksX1_mute_0 14 rfl rfl)
theorem dX1_mute_17 : decode cX1_mute 17 = .ok (.aload_n 0, 1) := dk_42 (dk_at dksX1_mute_0 17 rfl rfl)
theorem dX1_mute_18 : decode cX1_mute 18 = .ok (.getfield 95, 3) := dk_180 0 95 (dk_at dksX1_mute_0 18 rfl rfl)
theorem dX1_mute_21 : decode cX1_mute 21 = .ok (.getfield 442, 3) := dk_180 1 186 (dk_at dksX1_mute_0 21 rfl rfl)
theorem dX1_mute_24 : decode cX1_mute 24 = .ok (.iload_n 1, 1) := dk_27 (dk_at dksX1_mute_1 0 rfl rfl)
theorem dX1_mute_25 : decode cX1_mute 25 = .ok (.iload_n 2, 1) := dk_28 (dk_at dksX1_mute_1 1 rfl rfl)
theorem dX1_mute_26 : decode cX1_mute 26 = .ok (.invokevirtual 464, 3) := dk_182 1 208 (dk_at dksX1_mute_1 2 rfl rfl)
theorem dX1_mute_29 : decode cX1_mute 29 = .ok (.aload_n 0, 1) := dk_42 (dk_at dksX1_mute_1 5 rfl rfl)
theorem dX1_mute_30 : decode cX1_mute 30 = .ok (.getfield 95, 3) := dk_180 0 95 (dk_at dksX1_mute_1 6 rfl rfl)
theorem dX1_mute_33 : decode cX1_mute 33 = .ok (.aconst_null, 1) := dk_1 (dk_at dksX1_mute_1 9 rfl rfl)
theorem dX1_mute_34 : decode cX1_mute 34 = .ok (.putfield 448, 3) := dk_181 1 192 (dk_at dksX1_mute_1 10 rfl rfl)
theorem dX1_mute_37 : decode cX1_mute 37 = .ok (.iload_n 3, 1) := dk_29 (dk_at dksX1_mute_1 13 rfl rfl)
theorem dX1_mute_38 : decode cX1_mute 38 = .ok (.ireturn, 1) := dk_172 (dk_at dksX1_mute_1 14 rfl rfl)
abbrev cX1_keep : ByteArray := prog_1_method_77_code
def yX1_keep : MethodName := ⟨RX1, "keep", "()V"⟩
def dkwX1_keep_1 : List UInt8 := [42, 180, 0, 95, 182, 1, 164, 182, 1, 201, 177]
abbrev dktX1_keep_1 : List UInt8 := dkwX1_keep_1 ++ []
def dkwX1_keep_0 : List UInt8 := [42, 180, 0, 65, 182, 1, 197, 16, 6, 160, 0, 11, 42, 180, 0, 65, 182, 1, 198, 87, 42, 180, 0, 65]
abbrev dktX1_keep_0 : List UInt8 := dkwX1_keep_0 ++ dktX1_keep_1
theorem dksX1_keep_0 : cX1_keep.data.toList.drop 0 = dktX1_keep_0 := by decide +kernel
theorem dksX1_keep_1 : cX1_keep.data.toList.drop 24 = dktX1_keep_1 := dk_seg dksX1_keep_0 24 rfl rfl
theorem dX1_keep_0 : decode cX1_keep 0 = .ok (.aload_n 0, 1) := dk_42 (dk_at dksX1_keep_0 0 rfl rfl)
theorem dX1_keep_1 : decode cX1_keep 1 = .ok (.getfield 65, 3) := dk_180 0 65 (dk_at dksX1_keep_0 1 rfl rfl)
theorem dX1_keep_4 : decode cX1_keep 4 = .ok (.invokevirtual 453, 3) := dk_182 1 197 (dk_at dksX1_keep_0 4 rfl rfl)
theorem dX1_keep_7 : decode cX1_keep 7 = .ok (.bipush 6, 2) := dk_16 6 (dk_at dksX1_keep_0 7 rfl rfl)
theorem dX1_keep_9 : decode cX1_keep 9 = .ok (.if_icmp .ne 11, 3) := dk_160 0 11 (dk_at dksX1_keep_0 9 rfl rfl)
theorem dX1_keep_12 : decode cX1_keep 12 = .ok (.aload_n 0, 1) := dk_42 (dk_at dksX1_keep_0 12 rfl rfl)
theorem dX1_keep_13 : decode cX1_keep 13 = .ok (.getfield 65, 3) := dk_180 0 65 (dk_at dksX1_keep_0 13 rfl rfl)
theorem dX1_keep_16 : decode cX1_keep 16 = .ok (.invokevirtual 454, 3) := dk_182 1 198 (dk_at dksX1_keep_0 16 rfl rfl)
theorem dX1_keep_19 : decode cX1_keep 19 = .ok (.pop, 1) := dk_87 (dk_at dksX1_keep_0 19 rfl rfl)
theorem dX1_keep_20 : decode cX1_keep 20 = .ok (.aload_n 0, 1) := dk_42 (dk_at dksX1_keep_0 20 rfl rfl)
theorem dX1_keep_21 : decode cX1_keep 21 = .ok (.getfield 65, 3) := dk_180 0 65 (dk_at dksX1_keep_0 21 rfl rfl)
theorem dX1_keep_24 : decode cX1_keep 24 = .ok (.aload_n 0, 1) := dk_42 (dk_at dksX1_keep_1 0 rfl rfl)
theorem dX1_keep_25 : decode cX1_keep 25 = .ok (.getfield 95, 3) := dk_180 0 95 (dk_at dksX1_keep_1 1 rfl rfl)
theorem dX1_keep_28 : decode cX1_keep 28 = .ok (.invokevirtual 420, 3) := dk_182 1 164 (dk_at dksX1_keep_1 4 rfl rfl)
theorem dX1_keep_31 : decode cX1_keep 31 = .ok (.invokevirtual 457, 3) := dk_182 1 201 (dk_at dksX1_keep_1 7 rfl rfl)
theorem dX1_keep_34 : decode cX1_keep 34 = .ok (.return_, 1) := dk_177 (dk_at dksX1_keep_1 10 rfl rfl)
abbrev cX1_setWeight : ByteArray := prog_1_method_79_code
def yX1_setWeight : MethodName := ⟨RX1, "setWeight", "(II)I"⟩
def dkwX1_setWeight_1 : List UInt8 := [182, 1, 205, 42, 180, 0, 95, 180, 0, 203, 27, 28, 79, 42, 180, 0, 95, 1, 181, 1, 192, 29, 172]
abbrev dktX1_setWeight_1 : List UInt8 := dkwX1_setWeight_1 ++ []
def dkwX1_setWeight_0 : List UInt8 := [42, 27, 182, 0, 133, 180, 0, 203, 27, 46, 62, 28, 133, 9, 20, 1, 152, 184, 0, 85, 184, 0, 185, 42]
abbrev dktX1_setWeight_0 : List UInt8 := dkwX1_setWeight_0 ++ dktX1_setWeight_1
theorem dksX1_setWeight_0 : cX1_setWeight.data.toList.drop 0 = dktX1_setWeight_0 := by decide +kernel
theorem dksX1_setWeight_1 : cX1_setWeight.data.toList.drop 24 = dktX1_setWeight_1 := dk_seg dksX1_setWeight_0 24 rfl rfl
theorem dX1_setWeight_0 : decode cX1_setWeight 0 = .ok (.aload_n 0, 1) := dk_42 (dk_at dksX1_setWeight_0 0 rfl rfl)
theorem dX1_setWeight_1 : decode cX1_setWeight 1 = .ok (.iload_n 1, 1) := dk_27 (dk_at dksX1_setWeight_0 1 rfl rfl)
theorem dX1_setWeight_2 : decode cX1_setWeight 2 = .ok (.invokevirtual 133, 3) := dk_182 0 133 (dk_at dksX1_setWeight_0 2 rfl rfl)
theorem dX1_setWeight_5 : decode cX1_setWeight 5 = .ok (.getfield 203, 3) := dk_180 0 203 (dk_at dksX1_setWeight_0 5 rfl rfl)
theorem dX1_setWeight_8 : decode cX1_setWeight 8 = .ok (.iload_n 1, 1) := dk_27 (dk_at dksX1_setWeight_0 8 rfl rfl)
theorem dX1_setWeight_9 : decode cX1_setWeight 9 = .ok (.iaload, 1) := dk_46 (dk_at dksX1_setWeight_0 9 rfl rfl)
theorem dX1_setWeight_10 : decode cX1_setWeight 10 = .ok (.istore_n 3, 1) := dk_62 (dk_at dksX1_setWeight_0 10 rfl rfl)
theorem dX1_setWeight_11 : decode cX1_setWeight 11 = .ok (.iload_n 2, 1) := dk_28 (dk_at dksX1_setWeight_0 11 rfl rfl)
theorem dX1_setWeight_12 : decode cX1_setWeight 12 = .ok (.i2l, 1) := dk_133 (dk_at dksX1_setWeight_0 12 rfl rfl)
theorem dX1_setWeight_13 : decode cX1_setWeight 13 = .ok (.lconst 0, 1) := dk_9 (dk_at dksX1_setWeight_0 13 rfl rfl)
theorem dX1_setWeight_14 : decode cX1_setWeight 14 = .ok (.ldc2_w 408, 3) := dk_20 1 152 (dk_at dksX1_setWeight_0 14 rfl rfl)
theorem dX1_setWeight_17 : decode cX1_setWeight 17 = .ok (.invokestatic 85, 3) := dk_184 0 85 (dk_at dksX1_setWeight_0 17 rfl rfl)
theorem dX1_setWeight_20 : decode cX1_setWeight 20 = .ok (.invokestatic 185, 3) := dk_184 0 185 (dk_at dksX1_setWeight_0 20 rfl rfl)
theorem dX1_setWeight_23 : decode cX1_setWeight 23 = .ok (.aload_n 0, 1) := dk_42 (dk_at dksX1_setWeight_0 23 rfl rfl)
theorem dX1_setWeight_24 : decode cX1_setWeight 24 = .ok (.invokevirtual 461, 3) := dk_182 1 205 (dk_at dksX1_setWeight_1 0 rfl rfl)
theorem dX1_setWeight_27 : decode cX1_setWeight 27 = .ok (.aload_n 0, 1) := dk_42 (dk_at dksX1_setWeight_1 3 rfl rfl)
theorem dX1_setWeight_28 : decode cX1_setWeight 28 = .ok (.getfield 95, 3) := dk_180 0 95 (dk_at dksX1_setWeight_1 4 rfl rfl)
theorem dX1_setWeight_31 : decode cX1_setWeight 31 = .ok (.getfield 203, 3) := dk_180 0 203 (dk_at dksX1_setWeight_1 7 rfl rfl)
theorem dX1_setWeight_34 : decode cX1_setWeight 34 = .ok (.iload_n 1, 1) := dk_27 (dk_at dksX1_setWeight_1 10 rfl rfl)
theorem dX1_setWeight_35 : decode cX1_setWeight 35 = .ok (.iload_n 2, 1) := dk_28 (dk_at dksX1_setWeight_1 11 rfl rfl)
theorem dX1_setWeight_36 : decode cX1_setWeight 36 = .ok (.iastore, 1) := dk_79 (dk_at dksX1_setWeight_1 12 rfl rfl)
theorem dX1_setWeight_37 : decode cX1_setWeight 37 = .ok (.aload_n 0, 1) := dk_42 (dk_at dksX1_setWeight_1 13 rfl rfl)
theorem dX1_setWeight_38 : decode cX1_setWeight 38 = .ok (.getfield 95, 3) := dk_180 0 95 (dk_at dksX1_setWeight_1 14 rfl rfl)
theorem dX1_setWeight_41 : decode cX1_setWeight 41 = .ok (.aconst_null, 1) := dk_1 (dk_at dksX1_setWeight_1 17 rfl rfl)
theorem dX1_setWeight_42 : decode cX1_setWeight 42 = .ok (.putfield 448, 3) := dk_181 1 192 (dk_at dksX1_setWeight_1 18 rfl rfl)
theorem dX1_setWeight_45 : decode cX1_setWeight 45 = .ok (.iload_n 3, 1) := dk_29 (dk_at dksX1_setWeight_1 21 rfl rfl)
theorem dX1_setWeight_46 : decode cX1_setWeight 46 = .ok (.ireturn, 1) := dk_172 (dk_at dksX1_setWeight_1 22 rfl rfl)
abbrev cX1_setOn : ByteArray := prog_1_method_80_code
def yX1_setOn : MethodName := ⟨RX1, "setOn", "(IZ)Z"⟩
def dkwX1_setOn_1 : List UInt8 := [27, 28, 182, 1, 208, 42, 180, 0, 95, 182, 0, 169, 29, 172]
abbrev dktX1_setOn_1 : List UInt8 := dkwX1_setOn_1 ++ []
def dkwX1_setOn_0 : List UInt8 := [42, 27, 182, 0, 223, 180, 0, 237, 27, 182, 0, 241, 62, 42, 182, 1, 205, 42, 180, 0, 95, 180, 0, 237]
abbrev dktX1_setOn_0 : List UInt8 := dkwX1_setOn_0 ++ dktX1_setOn_1
theorem dksX1_setOn_0 : cX1_setOn.data.toList.drop 0 = dktX1_setOn_0 := by decide +kernel
theorem dksX1_setOn_1 : cX1_setOn.data.toList.drop 24 = dktX1_setOn_1 := dk_seg dksX1_setOn_0 24 rfl rfl
theorem dX1_setOn_0 : decode cX1_setOn 0 = .ok (.aload_n 0, 1) := dk_42 (dk_at dksX1_setOn_0 0 rfl rfl)
theorem dX1_setOn_1 : decode cX1_setOn 1 = .ok (.iload_n 1, 1) := dk_27 (dk_at dksX1_setOn_0 1 rfl rfl)
theorem dX1_setOn_2 : decode cX1_setOn 2 = .ok (.invokevirtual 223, 3) := dk_182 0 223 (dk_at dksX1_setOn_0 2 rfl rfl)
theorem dX1_setOn_5 : decode cX1_setOn 5 = .ok (.getfield 237, 3) := dk_180 0 237 (dk_at dksX1_setOn_0 5 rfl rfl)
theorem dX1_setOn_8 : decode cX1_setOn 8 = .ok (.iload_n 1, 1) := dk_27 (dk_at dksX1_setOn_0 8 rfl rfl)
theorem dX1_setOn_9 : decode cX1_setOn 9 = .ok (.invokevirtual 241, 3) := dk_182 0 241 (dk_at dksX1_setOn_0 9 rfl rfl)
theorem dX1_setOn_12 : decode cX1_setOn 12 = .ok (.istore_n 3, 1) := dk_62 (dk_at dksX1_setOn_0 12 rfl rfl)
theorem dX1_setOn_13 : decode cX1_setOn 13 = .ok (.aload_n 0, 1) := dk_42 (dk_at dksX1_setOn_0 13 rfl rfl)
theorem dX1_setOn_14 : decode cX1_setOn 14 = .ok (.invokevirtual 461, 3) := dk_182 1 205 (dk_at dksX1_setOn_0 14 rfl rfl)
theorem dX1_setOn_17 : decode cX1_setOn 17 = .ok (.aload_n 0, 1) := dk_42 (dk_at dksX1_setOn_0 17 rfl rfl)
theorem dX1_setOn_18 : decode cX1_setOn 18 = .ok (.getfield 95, 3) := dk_180 0 95 (dk_at dksX1_setOn_0 18 rfl rfl)
theorem dX1_setOn_21 : decode cX1_setOn 21 = .ok (.getfield 237, 3) := dk_180 0 237 (dk_at dksX1_setOn_0 21 rfl rfl)
theorem dX1_setOn_24 : decode cX1_setOn 24 = .ok (.iload_n 1, 1) := dk_27 (dk_at dksX1_setOn_1 0 rfl rfl)
theorem dX1_setOn_25 : decode cX1_setOn 25 = .ok (.iload_n 2, 1) := dk_28 (dk_at dksX1_setOn_1 1 rfl rfl)
theorem dX1_setOn_26 : decode cX1_setOn 26 = .ok (.invokevirtual 464, 3) := dk_182 1 208 (dk_at dksX1_setOn_1 2 rfl rfl)
theorem dX1_setOn_29 : decode cX1_setOn 29 = .ok (.aload_n 0, 1) := dk_42 (dk_at dksX1_setOn_1 5 rfl rfl)
theorem dX1_setOn_30 : decode cX1_setOn 30 = .ok (.getfield 95, 3) := dk_180 0 95 (dk_at dksX1_setOn_1 6 rfl rfl)
theorem dX1_setOn_33 : decode cX1_setOn 33 = .ok (.invokevirtual 169, 3) := dk_182 0 169 (dk_at dksX1_setOn_1 9 rfl rfl)
theorem dX1_setOn_36 : decode cX1_setOn 36 = .ok (.iload_n 3, 1) := dk_29 (dk_at dksX1_setOn_1 12 rfl rfl)
theorem dX1_setOn_37 : decode cX1_setOn 37 = .ok (.ireturn, 1) := dk_172 (dk_at dksX1_setOn_1 13 rfl rfl)
abbrev cX1_moveSource : ByteArray := prog_1_method_82_code
def yX1_moveSource : MethodName := ⟨RX1, "moveSource", "(III)I"⟩
def dkwX1_moveSource_3 : List UInt8 := [180, 1, 222, 25, 4, 180, 1, 225, 183, 1, 173, 182, 1, 228, 172]
abbrev dktX1_moveSource_3 : List UInt8 := dkwX1_moveSource_3 ++ []
def dkwX1_moveSource_2 : List UInt8 := [184, 0, 185, 42, 27, 187, 0, 230, 89, 25, 4, 180, 1, 215, 25, 4, 180, 1, 219, 28, 29, 25, 4]
abbrev dktX1_moveSource_2 : List UInt8 := dkwX1_moveSource_2 ++ dktX1_moveSource_3
def dkwX1_moveSource_1 : List UInt8 := [153, 0, 21, 29, 133, 20, 1, 211, 20, 1, 213, 184, 0, 85, 153, 0, 7, 4, 167, 0, 4, 3]
abbrev dktX1_moveSource_1 : List UInt8 := dkwX1_moveSource_1 ++ dktX1_moveSource_2
def dkwX1_moveSource_0 : List UInt8 := [42, 27, 182, 0, 223, 180, 0, 129, 27, 50, 58, 4, 28, 133, 20, 1, 211, 20, 1, 213, 184, 0, 85]
abbrev dktX1_moveSource_0 : List UInt8 := dkwX1_moveSource_0 ++ dktX1_moveSource_1
theorem dksX1_moveSource_0 : cX1_moveSource.data.toList.drop 0 = dktX1_moveSource_0 := by decide +kernel
theorem dksX1_moveSource_1 : cX1_moveSource.data.toList.drop 23 = dktX1_moveSource_1 := dk_seg dksX1_moveSource_0 23 rfl rfl
theorem dksX1_moveSource_2 : cX1_moveSource.data.toList.drop 45 = dktX1_moveSource_2 := dk_seg dksX1_moveSource_1 22 rfl rfl
theorem dksX1_moveSource_3 : cX1_moveSource.data.toList.drop 68 = dktX1_moveSource_3 := dk_seg dksX1_moveSource_2 23 rfl rfl
theorem dX1_moveSource_0 : decode cX1_moveSource 0 = .ok (.aload_n 0, 1) := dk_42 (dk_at dksX1_moveSource_0 0 rfl rfl)
theorem dX1_moveSource_1 : decode cX1_moveSource 1 = .ok (.iload_n 1, 1) := dk_27 (dk_at dksX1_moveSource_0 1 rfl rfl)
theorem dX1_moveSource_2 : decode cX1_moveSource 2 = .ok (.invokevirtual 223, 3) := dk_182 0 223 (dk_at dksX1_moveSource_0 2 rfl rfl)
theorem dX1_moveSource_5 : decode cX1_moveSource 5 = .ok (.getfield 129, 3) := dk_180 0 129 (dk_at dksX1_moveSource_0 5 rfl rfl)
theorem dX1_moveSource_8 : decode cX1_moveSource 8 = .ok (.iload_n 1, 1) := dk_27 (dk_at dksX1_moveSource_0 8 rfl rfl)
theorem dX1_moveSource_9 : decode cX1_moveSource 9 = .ok (.aaload, 1) := dk_50 (dk_at dksX1_moveSource_0 9 rfl rfl)
theorem dX1_moveSource_10 : decode cX1_moveSource 10 = .ok (.astore 4, 2) := dk_58 4 (dk_at dksX1_moveSource_0 10 rfl rfl)
theorem dX1_moveSource_12 : decode cX1_moveSource 12 = .ok (.iload_n 2, 1) := dk_28 (dk_at dksX1_moveSource_0 12 rfl rfl)
theorem dX1_moveSource_13 : decode cX1_moveSource 13 = .ok (.i2l, 1) := dk_133 (dk_at dksX1_moveSource_0 13 rfl rfl)
theorem dX1_moveSource_14 : decode cX1_moveSource 14 = .ok (.ldc2_w 467, 3) := dk_20 1 211 (dk_at dksX1_moveSource_0 14 rfl rfl)
theorem dX1_moveSource_17 : decode cX1_moveSource 17 = .ok (.ldc2_w 469, 3) := dk_20 1 213 (dk_at dksX1_moveSource_0 17 rfl rfl)
theorem dX1_moveSource_20 : decode cX1_moveSource 20 = .ok (.invokestatic 85, 3) := dk_184 0 85 (dk_at dksX1_moveSource_0 20 rfl rfl)
theorem dX1_moveSource_23 : decode cX1_moveSource 23 = .ok (.ifCond .eq 21, 3) := dk_153 0 21 (dk_at dksX1_moveSource_1 0 rfl rfl)
theorem dX1_moveSource_26 : decode cX1_moveSource 26 = .ok (.iload_n 3, 1) := dk_29 (dk_at dksX1_moveSource_1 3 rfl rfl)
theorem dX1_moveSource_27 : decode cX1_moveSource 27 = .ok (.i2l, 1) := dk_133 (dk_at dksX1_moveSource_1 4 rfl rfl)
theorem dX1_moveSource_28 : decode cX1_moveSource 28 = .ok (.ldc2_w 467, 3) := dk_20 1 211 (dk_at dksX1_moveSource_1 5 rfl rfl)
theorem dX1_moveSource_31 : decode cX1_moveSource 31 = .ok (.ldc2_w 469, 3) := dk_20 1 213 (dk_at dksX1_moveSource_1 8 rfl rfl)
theorem dX1_moveSource_34 : decode cX1_moveSource 34 = .ok (.invokestatic 85, 3) := dk_184 0 85 (dk_at dksX1_moveSource_1 11 rfl rfl)
theorem dX1_moveSource_37 : decode cX1_moveSource 37 = .ok (.ifCond .eq 7, 3) := dk_153 0 7 (dk_at dksX1_moveSource_1 14 rfl rfl)
theorem dX1_moveSource_40 : decode cX1_moveSource 40 = .ok (.iconst 1, 1) := dk_4 (dk_at dksX1_moveSource_1 17 rfl rfl)
theorem dX1_moveSource_41 : decode cX1_moveSource 41 = .ok (.goto 4, 3) := dk_167 0 4 (dk_at dksX1_moveSource_1 18 rfl rfl)
theorem dX1_moveSource_44 : decode cX1_moveSource 44 = .ok (.iconst 0, 1) := dk_3 (dk_at dksX1_moveSource_1 21 rfl rfl)
theorem dX1_moveSource_45 : decode cX1_moveSource 45 = .ok (.invokestatic 185, 3) := dk_184 0 185 (dk_at dksX1_moveSource_2 0 rfl rfl)
theorem dX1_moveSource_48 : decode cX1_moveSource 48 = .ok (.aload_n 0, 1) := dk_42 (dk_at dksX1_moveSource_2 3 rfl rfl)
theorem dX1_moveSource_49 : decode cX1_moveSource 49 = .ok (.iload_n 1, 1) := dk_27 (dk_at dksX1_moveSource_2 4 rfl rfl)
theorem dX1_moveSource_50 : decode cX1_moveSource 50 = .ok (.new 230, 3) := dk_187 0 230 (dk_at dksX1_moveSource_2 5 rfl rfl)
theorem dX1_moveSource_53 : decode cX1_moveSource 53 = .ok (.dup, 1) := dk_89 (dk_at dksX1_moveSource_2 8 rfl rfl)
theorem dX1_moveSource_54 : decode cX1_moveSource 54 = .ok (.aload 4, 2) := dk_25 4 (dk_at dksX1_moveSource_2 9 rfl rfl)
theorem dX1_moveSource_56 : decode cX1_moveSource 56 = .ok (.getfield 471, 3) := dk_180 1 215 (dk_at dksX1_moveSource_2 11 rfl rfl)
theorem dX1_moveSource_59 : decode cX1_moveSource 59 = .ok (.aload 4, 2) := dk_25 4 (dk_at dksX1_moveSource_2 14 rfl rfl)
theorem dX1_moveSource_61 : decode cX1_moveSource 61 = .ok (.getfield 475, 3) := dk_180 1 219 (dk_at dksX1_moveSource_2 16 rfl rfl)
theorem dX1_moveSource_64 : decode cX1_moveSource 64 = .ok (.iload_n 2, 1) := dk_28 (dk_at dksX1_moveSource_2 19 rfl rfl)
theorem dX1_moveSource_65 : decode cX1_moveSource 65 = .ok (.iload_n 3, 1) := dk_29 (dk_at dksX1_moveSource_2 20 rfl rfl)
theorem dX1_moveSource_66 : decode cX1_moveSource 66 = .ok (.aload 4, 2) := dk_25 4 (dk_at dksX1_moveSource_2 21 rfl rfl)
theorem dX1_moveSource_68 : decode cX1_moveSource 68 = .ok (.getfield 478, 3) := dk_180 1 222 (dk_at dksX1_moveSource_3 0 rfl rfl)
theorem dX1_moveSource_71 : decode cX1_moveSource 71 = .ok (.aload 4, 2) := dk_25 4 (dk_at dksX1_moveSource_3 3 rfl rfl)
theorem dX1_moveSource_73 : decode cX1_moveSource 73 = .ok (.getfield 481, 3) := dk_180 1 225 (dk_at dksX1_moveSource_3 5 rfl rfl)
theorem dX1_moveSource_76 : decode cX1_moveSource 76 = .ok (.invokespecial 429, 3) := dk_183 1 173 (dk_at dksX1_moveSource_3 8 rfl rfl)
theorem dX1_moveSource_79 : decode cX1_moveSource 79 = .ok (.invokevirtual 484, 3) := dk_182 1 228 (dk_at dksX1_moveSource_3 11 rfl rfl)
theorem dX1_moveSource_82 : decode cX1_moveSource 82 = .ok (.ireturn, 1) := dk_172 (dk_at dksX1_moveSource_3 14 rfl rfl)
abbrev cX1_become : ByteArray := prog_1_method_81_code
def yX1_become : MethodName := ⟨RX1, "become", "(ILAcousticCamera$Source;)I"⟩
def dkwX1_become_1 : List UInt8 := [180, 0, 95, 182, 1, 25, 172]
abbrev dktX1_become_1 : List UInt8 := dkwX1_become_1 ++ []
def dkwX1_become_0 : List UInt8 := [42, 182, 1, 205, 42, 180, 0, 95, 180, 0, 129, 27, 44, 83, 42, 180, 0, 95, 182, 0, 169, 42]
abbrev dktX1_become_0 : List UInt8 := dkwX1_become_0 ++ dktX1_become_1
theorem dksX1_become_0 : cX1_become.data.toList.drop 0 = dktX1_become_0 := by decide +kernel
theorem dksX1_become_1 : cX1_become.data.toList.drop 22 = dktX1_become_1 := dk_seg dksX1_become_0 22 rfl rfl
theorem dX1_become_0 : decode cX1_become 0 = .ok (.aload_n 0, 1) := dk_42 (dk_at dksX1_become_0 0 rfl rfl)
theorem dX1_become_1 : decode cX1_become 1 = .ok (.invokevirtual 461, 3) := dk_182 1 205 (dk_at dksX1_become_0 1 rfl rfl)
theorem dX1_become_4 : decode cX1_become 4 = .ok (.aload_n 0, 1) := dk_42 (dk_at dksX1_become_0 4 rfl rfl)
theorem dX1_become_5 : decode cX1_become 5 = .ok (.getfield 95, 3) := dk_180 0 95 (dk_at dksX1_become_0 5 rfl rfl)
theorem dX1_become_8 : decode cX1_become 8 = .ok (.getfield 129, 3) := dk_180 0 129 (dk_at dksX1_become_0 8 rfl rfl)
theorem dX1_become_11 : decode cX1_become 11 = .ok (.iload_n 1, 1) := dk_27 (dk_at dksX1_become_0 11 rfl rfl)
theorem dX1_become_12 : decode cX1_become 12 = .ok (.aload_n 2, 1) := dk_44 (dk_at dksX1_become_0 12 rfl rfl)
theorem dX1_become_13 : decode cX1_become 13 = .ok (.aastore, 1) := dk_83 (dk_at dksX1_become_0 13 rfl rfl)
theorem dX1_become_14 : decode cX1_become 14 = .ok (.aload_n 0, 1) := dk_42 (dk_at dksX1_become_0 14 rfl rfl)
theorem dX1_become_15 : decode cX1_become 15 = .ok (.getfield 95, 3) := dk_180 0 95 (dk_at dksX1_become_0 15 rfl rfl)
theorem dX1_become_18 : decode cX1_become 18 = .ok (.invokevirtual 169, 3) := dk_182 0 169 (dk_at dksX1_become_0 18 rfl rfl)
theorem dX1_become_21 : decode cX1_become 21 = .ok (.aload_n 0, 1) := dk_42 (dk_at dksX1_become_0 21 rfl rfl)
theorem dX1_become_22 : decode cX1_become 22 = .ok (.getfield 95, 3) := dk_180 0 95 (dk_at dksX1_become_1 0 rfl rfl)
theorem dX1_become_25 : decode cX1_become 25 = .ok (.invokevirtual 281, 3) := dk_182 1 25 (dk_at dksX1_become_1 3 rfl rfl)
theorem dX1_become_28 : decode cX1_become 28 = .ok (.ireturn, 1) := dk_172 (dk_at dksX1_become_1 6 rfl rfl)
abbrev cX1_setVelocity : ByteArray := prog_1_method_83_code
def yX1_setVelocity : MethodName := ⟨RX1, "setVelocity", "(III)I"⟩
def dkwX1_setVelocity_3 : List UInt8 := [25, 4, 180, 1, 233, 28, 29, 183, 1, 173, 182, 1, 228, 172]
abbrev dktX1_setVelocity_3 : List UInt8 := dkwX1_setVelocity_3 ++ []
def dkwX1_setVelocity_2 : List UInt8 := [184, 0, 185, 42, 27, 187, 0, 230, 89, 25, 4, 180, 1, 215, 25, 4, 180, 1, 219, 25, 4, 180, 1, 232]
abbrev dktX1_setVelocity_2 : List UInt8 := dkwX1_setVelocity_2 ++ dktX1_setVelocity_3
def dkwX1_setVelocity_1 : List UInt8 := [153, 0, 21, 29, 133, 20, 1, 113, 20, 1, 115, 184, 0, 85, 153, 0, 7, 4, 167, 0, 4, 3]
abbrev dktX1_setVelocity_1 : List UInt8 := dkwX1_setVelocity_1 ++ dktX1_setVelocity_2
def dkwX1_setVelocity_0 : List UInt8 := [42, 27, 182, 0, 223, 180, 0, 129, 27, 50, 58, 4, 28, 133, 20, 1, 113, 20, 1, 115, 184, 0, 85]
abbrev dktX1_setVelocity_0 : List UInt8 := dkwX1_setVelocity_0 ++ dktX1_setVelocity_1
theorem dksX1_setVelocity_0 : cX1_setVelocity.data.toList.drop 0 = dktX1_setVelocity_0 := by decide +kernel
theorem dksX1_setVelocity_1 : cX1_setVelocity.data.toList.drop 23 = dktX1_setVelocity_1 := dk_seg dksX1_setVelocity_0 23 rfl rfl
theorem dksX1_setVelocity_2 : cX1_setVelocity.data.toList.drop 45 = dktX1_setVelocity_2 := dk_seg dksX1_setVelocity_1 22 rfl rfl
theorem dksX1_setVelocity_3 : cX1_setVelocity.data.toList.drop 69 = dktX1_setVelocity_3 := dk_seg dksX1_setVelocity_2 24 rfl rfl
theorem dX1_setVelocity_0 : decode cX1_setVelocity 0 = .ok (.aload_n 0, 1) := dk_42 (dk_at dksX1_setVelocity_0 0 rfl rfl)
theorem dX1_setVelocity_1 : decode cX1_setVelocity 1 = .ok (.iload_n 1, 1) := dk_27 (dk_at dksX1_setVelocity_0 1 rfl rfl)
theorem dX1_setVelocity_2 : decode cX1_setVelocity 2 = .ok (.invokevirtual 223, 3) := dk_182 0 223 (dk_at dksX1_setVelocity_0 2 rfl rfl)
theorem dX1_setVelocity_5 : decode cX1_setVelocity 5 = .ok (.getfield 129, 3) := dk_180 0 129 (dk_at dksX1_setVelocity_0 5 rfl rfl)
theorem dX1_setVelocity_8 : decode cX1_setVelocity 8 = .ok (.iload_n 1, 1) := dk_27 (dk_at dksX1_setVelocity_0 8 rfl rfl)
theorem dX1_setVelocity_9 : decode cX1_setVelocity 9 = .ok (.aaload, 1) := dk_50 (dk_at dksX1_setVelocity_0 9 rfl rfl)
theorem dX1_setVelocity_10 : decode cX1_setVelocity 10 = .ok (.astore 4, 2) := dk_58 4 (dk_at dksX1_setVelocity_0 10 rfl rfl)
theorem dX1_setVelocity_12 : decode cX1_setVelocity 12 = .ok (.iload_n 2, 1) := dk_28 (dk_at dksX1_setVelocity_0 12 rfl rfl)
theorem dX1_setVelocity_13 : decode cX1_setVelocity 13 = .ok (.i2l, 1) := dk_133 (dk_at dksX1_setVelocity_0 13 rfl rfl)
theorem dX1_setVelocity_14 : decode cX1_setVelocity 14 = .ok (.ldc2_w 369, 3) := dk_20 1 113 (dk_at dksX1_setVelocity_0 14 rfl rfl)
theorem dX1_setVelocity_17 : decode cX1_setVelocity 17 = .ok (.ldc2_w 371, 3) := dk_20 1 115 (dk_at dksX1_setVelocity_0 17 rfl rfl)
theorem dX1_setVelocity_20 : decode cX1_setVelocity 20 = .ok (.invokestatic 85, 3) := dk_184 0 85 (dk_at dksX1_setVelocity_0 20 rfl rfl)
theorem dX1_setVelocity_23 : decode cX1_setVelocity 23 = .ok (.ifCond .eq 21, 3) := dk_153 0 21 (dk_at dksX1_setVelocity_1 0 rfl rfl)
theorem dX1_setVelocity_26 : decode cX1_setVelocity 26 = .ok (.iload_n 3, 1) := dk_29 (dk_at dksX1_setVelocity_1 3 rfl rfl)
theorem dX1_setVelocity_27 : decode cX1_setVelocity 27 = .ok (.i2l, 1) := dk_133 (dk_at dksX1_setVelocity_1 4 rfl rfl)
theorem dX1_setVelocity_28 : decode cX1_setVelocity 28 = .ok (.ldc2_w 369, 3) := dk_20 1 113 (dk_at dksX1_setVelocity_1 5 rfl rfl)
theorem dX1_setVelocity_31 : decode cX1_setVelocity 31 = .ok (.ldc2_w 371, 3) := dk_20 1 115 (dk_at dksX1_setVelocity_1 8 rfl rfl)
theorem dX1_setVelocity_34 : decode cX1_setVelocity 34 = .ok (.invokestatic 85, 3) := dk_184 0 85 (dk_at dksX1_setVelocity_1 11 rfl rfl)
theorem dX1_setVelocity_37 : decode cX1_setVelocity 37 = .ok (.ifCond .eq 7, 3) := dk_153 0 7 (dk_at dksX1_setVelocity_1 14 rfl rfl)
theorem dX1_setVelocity_40 : decode cX1_setVelocity 40 = .ok (.iconst 1, 1) := dk_4 (dk_at dksX1_setVelocity_1 17 rfl rfl)
theorem dX1_setVelocity_41 : decode cX1_setVelocity 41 = .ok (.goto 4, 3) := dk_167 0 4 (dk_at dksX1_setVelocity_1 18 rfl rfl)
theorem dX1_setVelocity_44 : decode cX1_setVelocity 44 = .ok (.iconst 0, 1) := dk_3 (dk_at dksX1_setVelocity_1 21 rfl rfl)
theorem dX1_setVelocity_45 : decode cX1_setVelocity 45 = .ok (.invokestatic 185, 3) := dk_184 0 185 (dk_at dksX1_setVelocity_2 0 rfl rfl)
theorem dX1_setVelocity_48 : decode cX1_setVelocity 48 = .ok (.aload_n 0, 1) := dk_42 (dk_at dksX1_setVelocity_2 3 rfl rfl)
theorem dX1_setVelocity_49 : decode cX1_setVelocity 49 = .ok (.iload_n 1, 1) := dk_27 (dk_at dksX1_setVelocity_2 4 rfl rfl)
theorem dX1_setVelocity_50 : decode cX1_setVelocity 50 = .ok (.new 230, 3) := dk_187 0 230 (dk_at dksX1_setVelocity_2 5 rfl rfl)
theorem dX1_setVelocity_53 : decode cX1_setVelocity 53 = .ok (.dup, 1) := dk_89 (dk_at dksX1_setVelocity_2 8 rfl rfl)
theorem dX1_setVelocity_54 : decode cX1_setVelocity 54 = .ok (.aload 4, 2) := dk_25 4 (dk_at dksX1_setVelocity_2 9 rfl rfl)
theorem dX1_setVelocity_56 : decode cX1_setVelocity 56 = .ok (.getfield 471, 3) := dk_180 1 215 (dk_at dksX1_setVelocity_2 11 rfl rfl)
theorem dX1_setVelocity_59 : decode cX1_setVelocity 59 = .ok (.aload 4, 2) := dk_25 4 (dk_at dksX1_setVelocity_2 14 rfl rfl)
theorem dX1_setVelocity_61 : decode cX1_setVelocity 61 = .ok (.getfield 475, 3) := dk_180 1 219 (dk_at dksX1_setVelocity_2 16 rfl rfl)
theorem dX1_setVelocity_64 : decode cX1_setVelocity 64 = .ok (.aload 4, 2) := dk_25 4 (dk_at dksX1_setVelocity_2 19 rfl rfl)
theorem dX1_setVelocity_66 : decode cX1_setVelocity 66 = .ok (.getfield 488, 3) := dk_180 1 232 (dk_at dksX1_setVelocity_2 21 rfl rfl)
theorem dX1_setVelocity_69 : decode cX1_setVelocity 69 = .ok (.aload 4, 2) := dk_25 4 (dk_at dksX1_setVelocity_3 0 rfl rfl)
theorem dX1_setVelocity_71 : decode cX1_setVelocity 71 = .ok (.getfield 489, 3) := dk_180 1 233 (dk_at dksX1_setVelocity_3 2 rfl rfl)
theorem dX1_setVelocity_74 : decode cX1_setVelocity 74 = .ok (.iload_n 2, 1) := dk_28 (dk_at dksX1_setVelocity_3 5 rfl rfl)
theorem dX1_setVelocity_75 : decode cX1_setVelocity 75 = .ok (.iload_n 3, 1) := dk_29 (dk_at dksX1_setVelocity_3 6 rfl rfl)
theorem dX1_setVelocity_76 : decode cX1_setVelocity 76 = .ok (.invokespecial 429, 3) := dk_183 1 173 (dk_at dksX1_setVelocity_3 7 rfl rfl)
theorem dX1_setVelocity_79 : decode cX1_setVelocity 79 = .ok (.invokevirtual 484, 3) := dk_182 1 228 (dk_at dksX1_setVelocity_3 10 rfl rfl)
theorem dX1_setVelocity_82 : decode cX1_setVelocity 82 = .ok (.ireturn, 1) := dk_172 (dk_at dksX1_setVelocity_3 13 rfl rfl)
abbrev cX1_clean : ByteArray := prog_1_method_84_code
def yX1_clean : MethodName := ⟨RX1, "clean", "(I)I"⟩
def dkwX1_clean_1 : List UInt8 := [184, 0, 85, 184, 0, 185, 42, 182, 1, 205, 42, 180, 0, 95, 27, 182, 1, 237, 172]
abbrev dktX1_clean_1 : List UInt8 := dkwX1_clean_1 ++ []
def dkwX1_clean_0 : List UInt8 := [42, 182, 0, 103, 182, 1, 234, 158, 0, 7, 4, 167, 0, 4, 3, 184, 0, 99, 27, 133, 10, 20, 1, 72]
abbrev dktX1_clean_0 : List UInt8 := dkwX1_clean_0 ++ dktX1_clean_1
theorem dksX1_clean_0 : cX1_clean.data.toList.drop 0 = dktX1_clean_0 := by decide +kernel
theorem dksX1_clean_1 : cX1_clean.data.toList.drop 24 = dktX1_clean_1 := dk_seg dksX1_clean_0 24 rfl rfl
theorem dX1_clean_0 : decode cX1_clean 0 = .ok (.aload_n 0, 1) := dk_42 (dk_at dksX1_clean_0 0 rfl rfl)
theorem dX1_clean_1 : decode cX1_clean 1 = .ok (.invokevirtual 103, 3) := dk_182 0 103 (dk_at dksX1_clean_0 1 rfl rfl)
theorem dX1_clean_4 : decode cX1_clean 4 = .ok (.invokevirtual 490, 3) := dk_182 1 234 (dk_at dksX1_clean_0 4 rfl rfl)
theorem dX1_clean_7 : decode cX1_clean 7 = .ok (.ifCond .le 7, 3) := dk_158 0 7 (dk_at dksX1_clean_0 7 rfl rfl)
theorem dX1_clean_10 : decode cX1_clean 10 = .ok (.iconst 1, 1) := dk_4 (dk_at dksX1_clean_0 10 rfl rfl)
theorem dX1_clean_11 : decode cX1_clean 11 = .ok (.goto 4, 3) := dk_167 0 4 (dk_at dksX1_clean_0 11 rfl rfl)
theorem dX1_clean_14 : decode cX1_clean 14 = .ok (.iconst 0, 1) := dk_3 (dk_at dksX1_clean_0 14 rfl rfl)
theorem dX1_clean_15 : decode cX1_clean 15 = .ok (.invokestatic 99, 3) := dk_184 0 99 (dk_at dksX1_clean_0 15 rfl rfl)
theorem dX1_clean_18 : decode cX1_clean 18 = .ok (.iload_n 1, 1) := dk_27 (dk_at dksX1_clean_0 18 rfl rfl)
theorem dX1_clean_19 : decode cX1_clean 19 = .ok (.i2l, 1) := dk_133 (dk_at dksX1_clean_0 19 rfl rfl)
theorem dX1_clean_20 : decode cX1_clean 20 = .ok (.lconst 1, 1) := dk_10 (dk_at dksX1_clean_0 20 rfl rfl)
theorem dX1_clean_21 : decode cX1_clean 21 = .ok (.ldc2_w 328, 3) := dk_20 1 72 (dk_at dksX1_clean_0 21 rfl rfl)
theorem dX1_clean_24 : decode cX1_clean 24 = .ok (.invokestatic 85, 3) := dk_184 0 85 (dk_at dksX1_clean_1 0 rfl rfl)
theorem dX1_clean_27 : decode cX1_clean 27 = .ok (.invokestatic 185, 3) := dk_184 0 185 (dk_at dksX1_clean_1 3 rfl rfl)
theorem dX1_clean_30 : decode cX1_clean 30 = .ok (.aload_n 0, 1) := dk_42 (dk_at dksX1_clean_1 6 rfl rfl)
theorem dX1_clean_31 : decode cX1_clean 31 = .ok (.invokevirtual 461, 3) := dk_182 1 205 (dk_at dksX1_clean_1 7 rfl rfl)
theorem dX1_clean_34 : decode cX1_clean 34 = .ok (.aload_n 0, 1) := dk_42 (dk_at dksX1_clean_1 10 rfl rfl)
theorem dX1_clean_35 : decode cX1_clean 35 = .ok (.getfield 95, 3) := dk_180 0 95 (dk_at dksX1_clean_1 11 rfl rfl)
theorem dX1_clean_38 : decode cX1_clean 38 = .ok (.iload_n 1, 1) := dk_27 (dk_at dksX1_clean_1 14 rfl rfl)
theorem dX1_clean_39 : decode cX1_clean 39 = .ok (.invokevirtual 493, 3) := dk_182 1 237 (dk_at dksX1_clean_1 15 rfl rfl)
theorem dX1_clean_42 : decode cX1_clean 42 = .ok (.ireturn, 1) := dk_172 (dk_at dksX1_clean_1 18 rfl rfl)
abbrev cX1_cleaned : ByteArray := prog_1_method_85_code
def yX1_cleaned : MethodName := ⟨RX1, "cleaned", "()I"⟩
def dkwX1_cleaned_0 : List UInt8 := [42, 182, 0, 103, 180, 1, 240, 172]
abbrev dktX1_cleaned_0 : List UInt8 := dkwX1_cleaned_0 ++ []
theorem dksX1_cleaned_0 : cX1_cleaned.data.toList.drop 0 = dktX1_cleaned_0 := by decide +kernel
theorem dX1_cleaned_0 : decode cX1_cleaned 0 = .ok (.aload_n 0, 1) := dk_42 (dk_at dksX1_cleaned_0 0 rfl rfl)
theorem dX1_cleaned_1 : decode cX1_cleaned 1 = .ok (.invokevirtual 103, 3) := dk_182 0 103 (dk_at dksX1_cleaned_0 1 rfl rfl)
theorem dX1_cleaned_4 : decode cX1_cleaned 4 = .ok (.getfield 496, 3) := dk_180 1 240 (dk_at dksX1_cleaned_0 4 rfl rfl)
theorem dX1_cleaned_7 : decode cX1_cleaned 7 = .ok (.ireturn, 1) := dk_172 (dk_at dksX1_cleaned_0 7 rfl rfl)
abbrev cX1_undo : ByteArray := prog_1_method_86_code
def yX1_undo : MethodName := ⟨RX1, "undo", "()I"⟩
def dkwX1_undo_1 : List UInt8 := [182, 1, 246, 192, 0, 69, 181, 0, 95, 42, 180, 0, 65, 182, 1, 197, 172]
abbrev dktX1_undo_1 : List UInt8 := dkwX1_undo_1 ++ []
def dkwX1_undo_0 : List UInt8 := [42, 180, 0, 65, 182, 1, 243, 154, 0, 7, 4, 167, 0, 4, 3, 184, 0, 99, 42, 42, 180, 0, 65]
abbrev dktX1_undo_0 : List UInt8 := dkwX1_undo_0 ++ dktX1_undo_1
theorem dksX1_undo_0 : cX1_undo.data.toList.drop 0 = dktX1_undo_0 := by decide +kernel
theorem dksX1_undo_1 : cX1_undo.data.toList.drop 23 = dktX1_undo_1 := dk_seg dksX1_undo_0 23 rfl rfl
theorem dX1_undo_0 : decode cX1_undo 0 = .ok (.aload_n 0, 1) := dk_42 (dk_at dksX1_undo_0 0 rfl rfl)
theorem dX1_undo_1 : decode cX1_undo 1 = .ok (.getfield 65, 3) := dk_180 0 65 (dk_at dksX1_undo_0 1 rfl rfl)
theorem dX1_undo_4 : decode cX1_undo 4 = .ok (.invokevirtual 499, 3) := dk_182 1 243 (dk_at dksX1_undo_0 4 rfl rfl)
theorem dX1_undo_7 : decode cX1_undo 7 = .ok (.ifCond .ne 7, 3) := dk_154 0 7 (dk_at dksX1_undo_0 7 rfl rfl)
theorem dX1_undo_10 : decode cX1_undo 10 = .ok (.iconst 1, 1) := dk_4 (dk_at dksX1_undo_0 10 rfl rfl)
theorem dX1_undo_11 : decode cX1_undo 11 = .ok (.goto 4, 3) := dk_167 0 4 (dk_at dksX1_undo_0 11 rfl rfl)
theorem dX1_undo_14 : decode cX1_undo 14 = .ok (.iconst 0, 1) := dk_3 (dk_at dksX1_undo_0 14 rfl rfl)
theorem dX1_undo_15 : decode cX1_undo 15 = .ok (.invokestatic 99, 3) := dk_184 0 99 (dk_at dksX1_undo_0 15 rfl rfl)
theorem dX1_undo_18 : decode cX1_undo 18 = .ok (.aload_n 0, 1) := dk_42 (dk_at dksX1_undo_0 18 rfl rfl)
theorem dX1_undo_19 : decode cX1_undo 19 = .ok (.aload_n 0, 1) := dk_42 (dk_at dksX1_undo_0 19 rfl rfl)
theorem dX1_undo_20 : decode cX1_undo 20 = .ok (.getfield 65, 3) := dk_180 0 65 (dk_at dksX1_undo_0 20 rfl rfl)
theorem dX1_undo_23 : decode cX1_undo 23 = .ok (.invokevirtual 502, 3) := dk_182 1 246 (dk_at dksX1_undo_1 0 rfl rfl)
theorem dX1_undo_26 : decode cX1_undo 26 = .ok (.checkcast 69, 3) := dk_192 0 69 (dk_at dksX1_undo_1 3 rfl rfl)
theorem dX1_undo_29 : decode cX1_undo 29 = .ok (.putfield 95, 3) := dk_181 0 95 (dk_at dksX1_undo_1 6 rfl rfl)
theorem dX1_undo_32 : decode cX1_undo 32 = .ok (.aload_n 0, 1) := dk_42 (dk_at dksX1_undo_1 9 rfl rfl)
theorem dX1_undo_33 : decode cX1_undo 33 = .ok (.getfield 65, 3) := dk_180 0 65 (dk_at dksX1_undo_1 10 rfl rfl)
theorem dX1_undo_36 : decode cX1_undo 36 = .ok (.invokevirtual 453, 3) := dk_182 1 197 (dk_at dksX1_undo_1 13 rfl rfl)
theorem dX1_undo_39 : decode cX1_undo 39 = .ok (.ireturn, 1) := dk_172 (dk_at dksX1_undo_1 16 rfl rfl)
abbrev cX1_save : ByteArray := prog_1_method_88_code
def yX1_save : MethodName := ⟨RX1, "save", "(I)I"⟩
def dkwX1_save_1 : List UInt8 := [180, 0, 95, 182, 1, 25, 172]
abbrev dktX1_save_1 : List UInt8 := dkwX1_save_1 ++ []
def dkwX1_save_0 : List UInt8 := [42, 182, 0, 103, 87, 27, 5, 184, 0, 122, 42, 180, 0, 71, 27, 42, 180, 0, 95, 182, 1, 164, 83, 42]
abbrev dktX1_save_0 : List UInt8 := dkwX1_save_0 ++ dktX1_save_1
theorem dksX1_save_0 : cX1_save.data.toList.drop 0 = dktX1_save_0 := by decide +kernel
theorem dksX1_save_1 : cX1_save.data.toList.drop 24 = dktX1_save_1 := dk_seg dksX1_save_0 24 rfl rfl
theorem dX1_save_0 : decode cX1_save 0 = .ok (.aload_n 0, 1) := dk_42 (dk_at dksX1_save_0 0 rfl rfl)
theorem dX1_save_1 : decode cX1_save 1 = .ok (.invokevirtual 103, 3) := dk_182 0 103 (dk_at dksX1_save_0 1 rfl rfl)
theorem dX1_save_4 : decode cX1_save 4 = .ok (.pop, 1) := dk_87 (dk_at dksX1_save_0 4 rfl rfl)
theorem dX1_save_5 : decode cX1_save 5 = .ok (.iload_n 1, 1) := dk_27 (dk_at dksX1_save_0 5 rfl rfl)
theorem dX1_save_6 : decode cX1_save 6 = .ok (.iconst 2, 1) := dk_5 (dk_at dksX1_save_0 6 rfl rfl)
theorem dX1_save_7 : decode cX1_save 7 = .ok (.invokestatic 122, 3) := dk_184 0 122 (dk_at dksX1_save_0 7 rfl rfl)
theorem dX1_save_10 : decode cX1_save 10 = .ok (.aload_n 0, 1) := dk_42 (dk_at dksX1_save_0 10 rfl rfl)
theorem dX1_save_11 : decode cX1_save 11 = .ok (.getfield 71, 3) := dk_180 0 71 (dk_at dksX1_save_0 11 rfl rfl)
theorem dX1_save_14 : decode cX1_save 14 = .ok (.iload_n 1, 1) := dk_27 (dk_at dksX1_save_0 14 rfl rfl)
theorem dX1_save_15 : decode cX1_save 15 = .ok (.aload_n 0, 1) := dk_42 (dk_at dksX1_save_0 15 rfl rfl)
theorem dX1_save_16 : decode cX1_save 16 = .ok (.getfield 95, 3) := dk_180 0 95 (dk_at dksX1_save_0 16 rfl rfl)
theorem dX1_save_19 : decode cX1_save 19 = .ok (.invokevirtual 420, 3) := dk_182 1 164 (dk_at dksX1_save_0 19 rfl rfl)
theorem dX1_save_22 : decode cX1_save 22 = .ok (.aastore, 1) := dk_83 (dk_at dksX1_save_0 22 rfl rfl)
theorem dX1_save_23 : decode cX1_save 23 = .ok (.aload_n 0, 1) := dk_42 (dk_at dksX1_save_0 23 rfl rfl)
theorem dX1_save_24 : decode cX1_save 24 = .ok (.getfield 95, 3) := dk_180 0 95 (dk_at dksX1_save_1 0 rfl rfl)
theorem dX1_save_27 : decode cX1_save 27 = .ok (.invokevirtual 281, 3) := dk_182 1 25 (dk_at dksX1_save_1 3 rfl rfl)
theorem dX1_save_30 : decode cX1_save 30 = .ok (.ireturn, 1) := dk_172 (dk_at dksX1_save_1 6 rfl rfl)
abbrev cX1_restore : ByteArray := prog_1_method_89_code
def yX1_restore : MethodName := ⟨RX1, "restore", "(I)I"⟩
def dkwX1_restore_2 : List UInt8 := [182, 1, 25, 172]
abbrev dktX1_restore_2 : List UInt8 := dkwX1_restore_2 ++ []
def dkwX1_restore_1 : List UInt8 := [180, 0, 71, 27, 50, 182, 1, 164, 181, 0, 95, 42, 180, 0, 65, 182, 0, 172, 42, 180, 0, 95]
abbrev dktX1_restore_1 : List UInt8 := dkwX1_restore_1 ++ dktX1_restore_2
def dkwX1_restore_0 : List UInt8 := [27, 5, 184, 0, 122, 42, 180, 0, 71, 27, 50, 198, 0, 7, 4, 167, 0, 4, 3, 184, 0, 99, 42, 42]
abbrev dktX1_restore_0 : List UInt8 := dkwX1_restore_0 ++ dktX1_restore_1
theorem dksX1_restore_0 : cX1_restore.data.toList.drop 0 = dktX1_restore_0 := by decide +kernel
theorem dksX1_restore_1 : cX1_restore.data.toList.drop 24 = dktX1_restore_1 := dk_seg dksX1_restore_0 24 rfl rfl
theorem dksX1_restore_2 : cX1_restore.data.toList.drop 46 = dktX1_restore_2 := dk_seg dksX1_restore_1 22 rfl rfl
theorem dX1_restore_0 : decode cX1_restore 0 = .ok (.iload_n 1, 1) := dk_27 (dk_at dksX1_restore_0 0 rfl rfl)
theorem dX1_restore_1 : decode cX1_restore 1 = .ok (.iconst 2, 1) := dk_5 (dk_at dksX1_restore_0 1 rfl rfl)
theorem dX1_restore_2 : decode cX1_restore 2 = .ok (.invokestatic 122, 3) := dk_184 0 122 (dk_at dksX1_restore_0 2 rfl rfl)
theorem dX1_restore_5 : decode cX1_restore 5 = .ok (.aload_n 0, 1) := dk_42 (dk_at dksX1_restore_0 5 rfl rfl)
theorem dX1_restore_6 : decode cX1_restore 6 = .ok (.getfield 71, 3) := dk_180 0 71 (dk_at dksX1_restore_0 6 rfl rfl)
theorem dX1_restore_9 : decode cX1_restore 9 = .ok (.iload_n 1, 1) := dk_27 (dk_at dksX1_restore_0 9 rfl rfl)
theorem dX1_restore_10 : decode cX1_restore 10 = .ok (.aaload, 1) := dk_50 (dk_at dksX1_restore_0 10 rfl rfl)
theorem dX1_restore_11 : decode cX1_restore 11 = .ok (.ifnull 7, 3) := dk_198 0 7 (dk_at dksX1_restore_0 11 rfl rfl)
theorem dX1_restore_14 : decode cX1_restore 14 = .ok (.iconst 1, 1) := dk_4 (dk_at dksX1_restore_0 14 rfl rfl)
theorem dX1_restore_15 : decode cX1_restore 15 = .ok (.goto 4, 3) := dk_167 0 4 (dk_at dksX1_restore_0 15 rfl rfl)
theorem dX1_restore_18 : decode cX1_restore 18 = .ok (.iconst 0, 1) := dk_3 (dk_at dksX1_restore_0 18 rfl rfl)
theorem dX1_restore_19 : decode cX1_restore 19 = .ok (.invokestatic 99, 3) := dk_184 0 99 (dk_at dksX1_restore_0 19 rfl rfl)
theorem dX1_restore_22 : decode cX1_restore 22 = .ok (.aload_n 0, 1) := dk_42 (dk_at dksX1_restore_0 22 rfl rfl)
theorem dX1_restore_23 : decode cX1_restore 23 = .ok (.aload_n 0, 1) := dk_42 (dk_at dksX1_restore_0 23 rfl rfl)
theorem dX1_restore_24 : decode cX1_restore 24 = .ok (.getfield 71, 3) := dk_180 0 71 (dk_at dksX1_restore_1 0 rfl rfl)
theorem dX1_restore_27 : decode cX1_restore 27 = .ok (.iload_n 1, 1) := dk_27 (dk_at dksX1_restore_1 3 rfl rfl)
theorem dX1_restore_28 : decode cX1_restore 28 = .ok (.aaload, 1) := dk_50 (dk_at dksX1_restore_1 4 rfl rfl)
theorem dX1_restore_29 : decode cX1_restore 29 = .ok (.invokevirtual 420, 3) := dk_182 1 164 (dk_at dksX1_restore_1 5 rfl rfl)
theorem dX1_restore_32 : decode cX1_restore 32 = .ok (.putfield 95, 3) := dk_181 0 95 (dk_at dksX1_restore_1 8 rfl rfl)
theorem dX1_restore_35 : decode cX1_restore 35 = .ok (.aload_n 0, 1) := dk_42 (dk_at dksX1_restore_1 11 rfl rfl)
theorem dX1_restore_36 : decode cX1_restore 36 = .ok (.getfield 65, 3) := dk_180 0 65 (dk_at dksX1_restore_1 12 rfl rfl)
theorem dX1_restore_39 : decode cX1_restore 39 = .ok (.invokevirtual 172, 3) := dk_182 0 172 (dk_at dksX1_restore_1 15 rfl rfl)
theorem dX1_restore_42 : decode cX1_restore 42 = .ok (.aload_n 0, 1) := dk_42 (dk_at dksX1_restore_1 18 rfl rfl)
theorem dX1_restore_43 : decode cX1_restore 43 = .ok (.getfield 95, 3) := dk_180 0 95 (dk_at dksX1_restore_1 19 rfl rfl)
theorem dX1_restore_46 : decode cX1_restore 46 = .ok (.invokevirtual 281, 3) := dk_182 1 25 (dk_at dksX1_restore_2 0 rfl rfl)
theorem dX1_restore_49 : decode cX1_restore 49 = .ok (.ireturn, 1) := dk_172 (dk_at dksX1_restore_2 3 rfl rfl)
