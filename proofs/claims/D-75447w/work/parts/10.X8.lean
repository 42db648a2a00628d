/-! decode rows: X8.AcousticCamera_Source.lean.txt -/
set_option maxRecDepth 100000
abbrev cX8_init : ByteArray := prog_8_method_1_code
def yX8_init : MethodName := ⟨RX8, "<init>", "(LAcousticCamera$Wave;IIIII)V"⟩
def dkwX8_init_1 : List UInt8 := [181, 0, 22, 42, 21, 5, 181, 0, 25, 42, 21, 6, 181, 0, 28, 177]
abbrev dktX8_init_1 : List UInt8 := dkwX8_init_1 ++ []
def dkwX8_init_0 : List UInt8 := [42, 183, 0, 3, 42, 43, 181, 0, 9, 42, 28, 181, 0, 15, 42, 29, 181, 0, 19, 42, 21, 4]
abbrev dktX8_init_0 : List UInt8 := dkwX8_init_0 ++ dktX8_init_1
theorem dksX8_init_0 : cX8_init.data.toList.drop 0 = dktX8_init_0 := by decide +kernel
theorem dksX8_init_1 : cX8_init.data.toList.drop 22 = dktX8_init_1 := dk_seg dksX8_init_0 22 rfl rfl
theorem dX8_init_0 : decode cX8_init 0 = .ok (.aload_n 0, 1) := dk_42 (dk_at dksX8_init_0 0 rfl rfl)
theorem dX8_init_1 : decode cX8_init 1 = .ok (.invokespecial 3, 3) := dk_183 0 3 (dk_at dksX8_init_0 1 rfl rfl)
theorem dX8_init_4 : decode cX8_init 4 = .ok (.aload_n 0, 1) := dk_42 (dk_at dksX8_init_0 4 rfl rfl)
theorem dX8_init_5 : decode cX8_init 5 = .ok (.aload_n 1, 1) := dk_43 (dk_at dksX8_init_0 5 rfl rfl)
theorem dX8_init_6 : decode cX8_init 6 = .ok (.putfield 9, 3) := dk_181 0 9 (dk_at dksX8_init_0 6 rfl rfl)
theorem dX8_init_9 : decode cX8_init 9 = .ok (.aload_n 0, 1) := dk_42 (dk_at dksX8_init_0 9 rfl rfl)
theorem dX8_init_10 : decode cX8_init 10 = .ok (.iload_n 2, 1) := dk_28 (dk_at dksX8_init_0 10 rfl rfl)
theorem dX8_init_11 : decode cX8_init 11 = .ok (.putfield 15, 3) := dk_181 0 15 (dk_at dksX8_init_0 11 rfl rfl)
theorem dX8_init_14 : decode cX8_init 14 = .ok (.aload_n 0, 1) := dk_42 (dk_at dksX8_init_0 14 rfl rfl)
theorem dX8_init_15 : decode cX8_init 15 = .ok (.iload_n 3, 1) := dk_29 (dk_at dksX8_init_0 15 rfl rfl)
theorem dX8_init_16 : decode cX8_init 16 = .ok (.putfield 19, 3) := dk_181 0 19 (dk_at dksX8_init_0 16 rfl rfl)
theorem dX8_init_19 : decode cX8_init 19 = .ok (.aload_n 0, 1) := dk_42 (dk_at dksX8_init_0 19 rfl rfl)
theorem dX8_init_20 : decode cX8_init 20 = .ok (.iload 4, 2) := dk_21 4 (dk_at dksX8_init_0 20 rfl rfl)
theorem dX8_init_22 : decode cX8_init 22 = .ok (.putfield 22, 3) := dk_181 0 22 (dk_at dksX8_init_1 0 rfl rfl)
theorem dX8_init_25 : decode cX8_init 25 = .ok (.aload_n 0, 1) := dk_42 (dk_at dksX8_init_1 3 rfl rfl)
theorem dX8_init_26 : decode cX8_init 26 = .ok (.iload 5, 2) := dk_21 5 (dk_at dksX8_init_1 4 rfl rfl)
theorem dX8_init_28 : decode cX8_init 28 = .ok (.putfield 25, 3) := dk_181 0 25 (dk_at dksX8_init_1 6 rfl rfl)
theorem dX8_init_31 : decode cX8_init 31 = .ok (.aload_n 0, 1) := dk_42 (dk_at dksX8_init_1 9 rfl rfl)
theorem dX8_init_32 : decode cX8_init 32 = .ok (.iload 6, 2) := dk_21 6 (dk_at dksX8_init_1 10 rfl rfl)
theorem dX8_init_34 : decode cX8_init 34 = .ok (.putfield 28, 3) := dk_181 0 28 (dk_at dksX8_init_1 12 rfl rfl)
theorem dX8_init_37 : decode cX8_init 37 = .ok (.return_, 1) := dk_177 (dk_at dksX8_init_1 15 rfl rfl)
abbrev cX8_xAt : ByteArray := prog_8_method_2_code
def yX8_xAt : MethodName := ⟨RX8, "xAt", "(I)I"⟩
def dkwX8_xAt_0 : List UInt8 := [42, 180, 0, 19, 42, 180, 0, 25, 27, 104, 16, 100, 108, 96, 172]
abbrev dktX8_xAt_0 : List UInt8 := dkwX8_xAt_0 ++ []
theorem dksX8_xAt_0 : cX8_xAt.data.toList.drop 0 = dktX8_xAt_0 := by decide +kernel
theorem dX8_xAt_0 : decode cX8_xAt 0 = .ok (.aload_n 0, 1) := dk_42 (dk_at dksX8_xAt_0 0 rfl rfl)
theorem dX8_xAt_1 : decode cX8_xAt 1 = .ok (.getfield 19, 3) := dk_180 0 19 (dk_at dksX8_xAt_0 1 rfl rfl)
theorem dX8_xAt_4 : decode cX8_xAt 4 = .ok (.aload_n 0, 1) := dk_42 (dk_at dksX8_xAt_0 4 rfl rfl)
theorem dX8_xAt_5 : decode cX8_xAt 5 = .ok (.getfield 25, 3) := dk_180 0 25 (dk_at dksX8_xAt_0 5 rfl rfl)
theorem dX8_xAt_8 : decode cX8_xAt 8 = .ok (.iload_n 1, 1) := dk_27 (dk_at dksX8_xAt_0 8 rfl rfl)
theorem dX8_xAt_9 : decode cX8_xAt 9 = .ok (.imul, 1) := dk_104 (dk_at dksX8_xAt_0 9 rfl rfl)
theorem dX8_xAt_10 : decode cX8_xAt 10 = .ok (.bipush 100, 2) := dk_16 100 (dk_at dksX8_xAt_0 10 rfl rfl)
theorem dX8_xAt_12 : decode cX8_xAt 12 = .ok (.idiv, 1) := dk_108 (dk_at dksX8_xAt_0 12 rfl rfl)
theorem dX8_xAt_13 : decode cX8_xAt 13 = .ok (.iadd, 1) := dk_96 (dk_at dksX8_xAt_0 13 rfl rfl)
theorem dX8_xAt_14 : decode cX8_xAt 14 = .ok (.ireturn, 1) := dk_172 (dk_at dksX8_xAt_0 14 rfl rfl)
abbrev cX8_yAt : ByteArray := prog_8_method_3_code
def yX8_yAt : MethodName := ⟨RX8, "yAt", "(I)I"⟩
def dkwX8_yAt_0 : List UInt8 := [42, 180, 0, 22, 42, 180, 0, 28, 27, 104, 16, 100, 108, 96, 172]
abbrev dktX8_yAt_0 : List UInt8 := dkwX8_yAt_0 ++ []
theorem dksX8_yAt_0 : cX8_yAt.data.toList.drop 0 = dktX8_yAt_0 := by decide +kernel
theorem dX8_yAt_0 : decode cX8_yAt 0 = .ok (.aload_n 0, 1) := dk_42 (dk_at dksX8_yAt_0 0 rfl rfl)
theorem dX8_yAt_1 : decode cX8_yAt 1 = .ok (.getfield 22, 3) := dk_180 0 22 (dk_at dksX8_yAt_0 1 rfl rfl)
theorem dX8_yAt_4 : decode cX8_yAt 4 = .ok (.aload_n 0, 1) := dk_42 (dk_at dksX8_yAt_0 4 rfl rfl)
theorem dX8_yAt_5 : decode cX8_yAt 5 = .ok (.getfield 28, 3) := dk_180 0 28 (dk_at dksX8_yAt_0 5 rfl rfl)
theorem dX8_yAt_8 : decode cX8_yAt 8 = .ok (.iload_n 1, 1) := dk_27 (dk_at dksX8_yAt_0 8 rfl rfl)
theorem dX8_yAt_9 : decode cX8_yAt 9 = .ok (.imul, 1) := dk_104 (dk_at dksX8_yAt_0 9 rfl rfl)
theorem dX8_yAt_10 : decode cX8_yAt 10 = .ok (.bipush 100, 2) := dk_16 100 (dk_at dksX8_yAt_0 10 rfl rfl)
theorem dX8_yAt_12 : decode cX8_yAt 12 = .ok (.idiv, 1) := dk_108 (dk_at dksX8_yAt_0 12 rfl rfl)
theorem dX8_yAt_13 : decode cX8_yAt 13 = .ok (.iadd, 1) := dk_96 (dk_at dksX8_yAt_0 13 rfl rfl)
theorem dX8_yAt_14 : decode cX8_yAt 14 = .ok (.ireturn, 1) := dk_172 (dk_at dksX8_yAt_0 14 rfl rfl)
abbrev cX8_at : ByteArray := prog_8_method_4_code
def yX8_at : MethodName := ⟨RX8, "at", "(I)I"⟩
def dkwX8_at_0 : List UInt8 := [27, 42, 180, 0, 15, 162, 0, 7, 3, 167, 0, 13, 42, 180, 0, 9, 27, 185, 0, 31, 2, 0, 172]
abbrev dktX8_at_0 : List UInt8 := dkwX8_at_0 ++ []
theorem dksX8_at_0 : cX8_at.data.toList.drop 0 = dktX8_at_0 := by decide +kernel
theorem dX8_at_0 : decode cX8_at 0 = .ok (.iload_n 1, 1) := dk_27 (dk_at dksX8_at_0 0 rfl rfl)
theorem dX8_at_1 : decode cX8_at 1 = .ok (.aload_n 0, 1) := dk_42 (dk_at dksX8_at_0 1 rfl rfl)
theorem dX8_at_2 : decode cX8_at 2 = .ok (.getfield 15, 3) := dk_180 0 15 (dk_at dksX8_at_0 2 rfl rfl)
theorem dX8_at_5 : decode cX8_at 5 = .ok (.if_icmp .ge 7, 3) := dk_162 0 7 (dk_at dksX8_at_0 5 rfl rfl)
theorem dX8_at_8 : decode cX8_at 8 = .ok (.iconst 0, 1) := dk_3 (dk_at dksX8_at_0 8 rfl rfl)
theorem dX8_at_9 : decode cX8_at 9 = .ok (.goto 13, 3) := dk_167 0 13 (dk_at dksX8_at_0 9 rfl rfl)
theorem dX8_at_12 : decode cX8_at 12 = .ok (.aload_n 0, 1) := dk_42 (dk_at dksX8_at_0 12 rfl rfl)
theorem dX8_at_13 : decode cX8_at 13 = .ok (.getfield 9, 3) := dk_180 0 9 (dk_at dksX8_at_0 13 rfl rfl)
theorem dX8_at_16 : decode cX8_at 16 = .ok (.iload_n 1, 1) := dk_27 (dk_at dksX8_at_0 16 rfl rfl)
theorem dX8_at_17 : decode cX8_at 17 = .ok (.invokeinterface 31 2, 5) := by decide +kernel
theorem dX8_at_22 : decode cX8_at 22 = .ok (.ireturn, 1) := dk_172 (dk_at dksX8_at_0 22 rfl rfl)
