/-! decode rows: X9.AcousticCamera_Waves.lean.txt -/
set_option maxRecDepth 100000
abbrev cX9_square : ByteArray := prog_12_method_2_code
def yX9_square : MethodName := ⟨RX9, "square", "(III)LAcousticCamera$Wave;"⟩
def dkwX9_square_0 : List UInt8 := [28, 27, 26, 186, 0, 7, 0, 0, 176]
abbrev dktX9_square_0 : List UInt8 := dkwX9_square_0 ++ []
theorem dksX9_square_0 : cX9_square.data.toList.drop 0 = dktX9_square_0 := by decide +kernel
theorem dX9_square_0 : decode cX9_square 0 = .ok (.iload_n 2, 1) := dk_28 (dk_at dksX9_square_0 0 rfl rfl)
theorem dX9_square_1 : decode cX9_square 1 = .ok (.iload_n 1, 1) := dk_27 (dk_at dksX9_square_0 1 rfl rfl)
theorem dX9_square_2 : decode cX9_square 2 = .ok (.iload_n 0, 1) := dk_26 (dk_at dksX9_square_0 2 rfl rfl)
theorem dX9_square_3 : decode cX9_square 3 = .ok (.invokedynamic 7, 5) := by decide +kernel
theorem dX9_square_8 : decode cX9_square 8 = .ok (.areturn, 1) := dk_176 (dk_at dksX9_square_0 8 rfl rfl)
abbrev cX9_lambda_square_0 : ByteArray := prog_12_method_9_code
def yX9_lambda_square_0 : MethodName := ⟨RX9, "lambda$square$0", "(IIII)I"⟩
def dkwX9_lambda_square_0_0 : List UInt8 := [29, 26, 96, 27, 112, 27, 5, 108, 162, 0, 7, 28, 167, 0, 5, 28, 116, 172]
abbrev dktX9_lambda_square_0_0 : List UInt8 := dkwX9_lambda_square_0_0 ++ []
theorem dksX9_lambda_square_0_0 : cX9_lambda_square_0.data.toList.drop 0 = dktX9_lambda_square_0_0 := by decide +kernel
theorem dX9_lambda_square_0_0 : decode cX9_lambda_square_0 0 = .ok (.iload_n 3, 1) := dk_29 (dk_at dksX9_lambda_square_0_0 0 rfl rfl)
theorem dX9_lambda_square_0_1 : decode cX9_lambda_square_0 1 = .ok (.iload_n 0, 1) := dk_26 (dk_at dksX9_lambda_square_0_0 1 rfl rfl)
theorem dX9_lambda_square_0_2 : decode cX9_lambda_square_0 2 = .ok (.iadd, 1) := dk_96 (dk_at dksX9_lambda_square_0_0 2 rfl rfl)
theorem dX9_lambda_square_0_3 : decode cX9_lambda_square_0 3 = .ok (.iload_n 1, 1) := dk_27 (dk_at dksX9_lambda_square_0_0 3 rfl rfl)
theorem dX9_lambda_square_0_4 : decode cX9_lambda_square_0 4 = .ok (.irem, 1) := dk_112 (dk_at dksX9_lambda_square_0_0 4 rfl rfl)
theorem dX9_lambda_square_0_5 : decode cX9_lambda_square_0 5 = .ok (.iload_n 1, 1) := dk_27 (dk_at dksX9_lambda_square_0_0 5 rfl rfl)
theorem dX9_lambda_square_0_6 : decode cX9_lambda_square_0 6 = .ok (.iconst 2, 1) := dk_5 (dk_at dksX9_lambda_square_0_0 6 rfl rfl)
theorem dX9_lambda_square_0_7 : decode cX9_lambda_square_0 7 = .ok (.idiv, 1) := dk_108 (dk_at dksX9_lambda_square_0_0 7 rfl rfl)
theorem dX9_lambda_square_0_8 : decode cX9_lambda_square_0 8 = .ok (.if_icmp .ge 7, 3) := dk_162 0 7 (dk_at dksX9_lambda_square_0_0 8 rfl rfl)
theorem dX9_lambda_square_0_11 : decode cX9_lambda_square_0 11 = .ok (.iload_n 2, 1) := dk_28 (dk_at dksX9_lambda_square_0_0 11 rfl rfl)
theorem dX9_lambda_square_0_12 : decode cX9_lambda_square_0 12 = .ok (.goto 5, 3) := dk_167 0 5 (dk_at dksX9_lambda_square_0_0 12 rfl rfl)
theorem dX9_lambda_square_0_15 : decode cX9_lambda_square_0 15 = .ok (.iload_n 2, 1) := dk_28 (dk_at dksX9_lambda_square_0_0 15 rfl rfl)
theorem dX9_lambda_square_0_16 : decode cX9_lambda_square_0 16 = .ok (.ineg, 1) := dk_116 (dk_at dksX9_lambda_square_0_0 16 rfl rfl)
theorem dX9_lambda_square_0_17 : decode cX9_lambda_square_0 17 = .ok (.ireturn, 1) := dk_172 (dk_at dksX9_lambda_square_0_0 17 rfl rfl)
abbrev cX9_triangle : ByteArray := prog_12_method_3_code
def yX9_triangle : MethodName := ⟨RX9, "triangle", "(III)LAcousticCamera$Wave;"⟩
def dkwX9_triangle_0 : List UInt8 := [28, 27, 26, 186, 0, 11, 0, 0, 176]
abbrev dktX9_triangle_0 : List UInt8 := dkwX9_triangle_0 ++ []
theorem dksX9_triangle_0 : cX9_triangle.data.toList.drop 0 = dktX9_triangle_0 := by decide +kernel
theorem dX9_triangle_0 : decode cX9_triangle 0 = .ok (.iload_n 2, 1) := dk_28 (dk_at dksX9_triangle_0 0 rfl rfl)
theorem dX9_triangle_1 : decode cX9_triangle 1 = .ok (.iload_n 1, 1) := dk_27 (dk_at dksX9_triangle_0 1 rfl rfl)
theorem dX9_triangle_2 : decode cX9_triangle 2 = .ok (.iload_n 0, 1) := dk_26 (dk_at dksX9_triangle_0 2 rfl rfl)
theorem dX9_triangle_3 : decode cX9_triangle 3 = .ok (.invokedynamic 11, 5) := by decide +kernel
theorem dX9_triangle_8 : decode cX9_triangle 8 = .ok (.areturn, 1) := dk_176 (dk_at dksX9_triangle_0 8 rfl rfl)
abbrev cX9_lambda_triangle_1 : ByteArray := prog_12_method_8_code
def yX9_lambda_triangle_1 : MethodName := ⟨RX9, "lambda$triangle$1", "(IIII)I"⟩
def dkwX9_lambda_triangle_1_1 : List UInt8 := [172]
abbrev dktX9_lambda_triangle_1_1 : List UInt8 := dkwX9_lambda_triangle_1_1 ++ []
def dkwX9_lambda_triangle_1_0 : List UInt8 := [29, 26, 96, 27, 112, 27, 5, 108, 100, 184, 0, 22, 54, 4, 28, 7, 21, 4, 104, 27, 100, 104, 27, 108]
abbrev dktX9_lambda_triangle_1_0 : List UInt8 := dkwX9_lambda_triangle_1_0 ++ dktX9_lambda_triangle_1_1
theorem dksX9_lambda_triangle_1_0 : cX9_lambda_triangle_1.data.toList.drop 0 = dktX9_lambda_triangle_1_0 := by decide +kernel
theorem dksX9_lambda_triangle_1_1 : cX9_lambda_triangle_1.data.toList.drop 24 = dktX9_lambda_triangle_1_1 := dk_seg dksX9_lambda_triangle_1_0 24 rfl rfl
theorem dX9_lambda_triangle_1_0 : decode cX9_lambda_triangle_1 0 = .ok (.iload_n 3, 1) := dk_29 (dk_at dksX9_lambda_triangle_1_0 0 rfl rfl)
theorem dX9_lambda_triangle_1_1 : decode cX9_lambda_triangle_1 1 = .ok (.iload_n 0, 1) := dk_26 (dk_at dksX9_lambda_triangle_1_0 1 rfl rfl)
theorem dX9_lambda_triangle_1_2 : decode cX9_lambda_triangle_1 2 = .ok (.iadd, 1) := dk_96 (dk_at dksX9_lambda_triangle_1_0 2 rfl rfl)
theorem dX9_lambda_triangle_1_3 : decode cX9_lambda_triangle_1 3 = .ok (.iload_n 1, 1) := dk_27 (dk_at dksX9_lambda_triangle_1_0 3 rfl rfl)
theorem dX9_lambda_triangle_1_4 : decode cX9_lambda_triangle_1 4 = .ok (.irem, 1) := dk_112 (dk_at dksX9_lambda_triangle_1_0 4 rfl rfl)
theorem dX9_lambda_triangle_1_5 : decode cX9_lambda_triangle_1 5 = .ok (.iload_n 1, 1) := dk_27 (dk_at dksX9_lambda_triangle_1_0 5 rfl rfl)
theorem dX9_lambda_triangle_1_6 : decode cX9_lambda_triangle_1 6 = .ok (.iconst 2, 1) := dk_5 (dk_at dksX9_lambda_triangle_1_0 6 rfl rfl)
theorem dX9_lambda_triangle_1_7 : decode cX9_lambda_triangle_1 7 = .ok (.idiv, 1) := dk_108 (dk_at dksX9_lambda_triangle_1_0 7 rfl rfl)
theorem dX9_lambda_triangle_1_8 : decode cX9_lambda_triangle_1 8 = .ok (.isub, 1) := dk_100 (dk_at dksX9_lambda_triangle_1_0 8 rfl rfl)
theorem dX9_lambda_triangle_1_9 : decode cX9_lambda_triangle_1 9 = .ok (.invokestatic 22, 3) := dk_184 0 22 (dk_at dksX9_lambda_triangle_1_0 9 rfl rfl)
theorem dX9_lambda_triangle_1_12 : decode cX9_lambda_triangle_1 12 = .ok (.istore 4, 2) := dk_54 4 (dk_at dksX9_lambda_triangle_1_0 12 rfl rfl)
theorem dX9_lambda_triangle_1_14 : decode cX9_lambda_triangle_1 14 = .ok (.iload_n 2, 1) := dk_28 (dk_at dksX9_lambda_triangle_1_0 14 rfl rfl)
theorem dX9_lambda_triangle_1_15 : decode cX9_lambda_triangle_1 15 = .ok (.iconst 4, 1) := dk_7 (dk_at dksX9_lambda_triangle_1_0 15 rfl rfl)
theorem dX9_lambda_triangle_1_16 : decode cX9_lambda_triangle_1 16 = .ok (.iload 4, 2) := dk_21 4 (dk_at dksX9_lambda_triangle_1_0 16 rfl rfl)
theorem dX9_lambda_triangle_1_18 : decode cX9_lambda_triangle_1 18 = .ok (.imul, 1) := dk_104 (dk_at dksX9_lambda_triangle_1_0 18 rfl rfl)
theorem dX9_lambda_triangle_1_19 : decode cX9_lambda_triangle_1 19 = .ok (.iload_n 1, 1) := dk_27 (dk_at dksX9_lambda_triangle_1_0 19 rfl rfl)
theorem dX9_lambda_triangle_1_20 : decode cX9_lambda_triangle_1 20 = .ok (.isub, 1) := dk_100 (dk_at dksX9_lambda_triangle_1_0 20 rfl rfl)
theorem dX9_lambda_triangle_1_21 : decode cX9_lambda_triangle_1 21 = .ok (.imul, 1) := dk_104 (dk_at dksX9_lambda_triangle_1_0 21 rfl rfl)
theorem dX9_lambda_triangle_1_22 : decode cX9_lambda_triangle_1 22 = .ok (.iload_n 1, 1) := dk_27 (dk_at dksX9_lambda_triangle_1_0 22 rfl rfl)
theorem dX9_lambda_triangle_1_23 : decode cX9_lambda_triangle_1 23 = .ok (.idiv, 1) := dk_108 (dk_at dksX9_lambda_triangle_1_0 23 rfl rfl)
theorem dX9_lambda_triangle_1_24 : decode cX9_lambda_triangle_1 24 = .ok (.ireturn, 1) := dk_172 (dk_at dksX9_lambda_triangle_1_1 0 rfl rfl)
abbrev cX9_pulse : ByteArray := prog_12_method_4_code
def yX9_pulse : MethodName := ⟨RX9, "pulse", "(III)LAcousticCamera$Wave;"⟩
def dkwX9_pulse_0 : List UInt8 := [28, 27, 26, 186, 0, 12, 0, 0, 176]
abbrev dktX9_pulse_0 : List UInt8 := dkwX9_pulse_0 ++ []
theorem dksX9_pulse_0 : cX9_pulse.data.toList.drop 0 = dktX9_pulse_0 := by decide +kernel
theorem dX9_pulse_0 : decode cX9_pulse 0 = .ok (.iload_n 2, 1) := dk_28 (dk_at dksX9_pulse_0 0 rfl rfl)
theorem dX9_pulse_1 : decode cX9_pulse 1 = .ok (.iload_n 1, 1) := dk_27 (dk_at dksX9_pulse_0 1 rfl rfl)
theorem dX9_pulse_2 : decode cX9_pulse 2 = .ok (.iload_n 0, 1) := dk_26 (dk_at dksX9_pulse_0 2 rfl rfl)
theorem dX9_pulse_3 : decode cX9_pulse 3 = .ok (.invokedynamic 12, 5) := by decide +kernel
theorem dX9_pulse_8 : decode cX9_pulse 8 = .ok (.areturn, 1) := dk_176 (dk_at dksX9_pulse_0 8 rfl rfl)
abbrev cX9_lambda_pulse_2 : ByteArray := prog_12_method_7_code
def yX9_lambda_pulse_2 : MethodName := ⟨RX9, "lambda$pulse$2", "(IIII)I"⟩
def dkwX9_lambda_pulse_2_0 : List UInt8 := [29, 26, 96, 27, 112, 154, 0, 7, 28, 167, 0, 4, 3, 172]
abbrev dktX9_lambda_pulse_2_0 : List UInt8 := dkwX9_lambda_pulse_2_0 ++ []
theorem dksX9_lambda_pulse_2_0 : cX9_lambda_pulse_2.data.toList.drop 0 = dktX9_lambda_pulse_2_0 := by decide +kernel
theorem dX9_lambda_pulse_2_0 : decode cX9_lambda_pulse_2 0 = .ok (.iload_n 3, 1) := dk_29 (dk_at dksX9_lambda_pulse_2_0 0 rfl rfl)
theorem dX9_lambda_pulse_2_1 : decode cX9_lambda_pulse_2 1 = .ok (.iload_n 0, 1) := dk_26 (dk_at dksX9_lambda_pulse_2_0 1 rfl rfl)
theorem dX9_lambda_pulse_2_2 : decode cX9_lambda_pulse_2 2 = .ok (.iadd, 1) := dk_96 (dk_at dksX9_lambda_pulse_2_0 2 rfl rfl)
theorem dX9_lambda_pulse_2_3 : decode cX9_lambda_pulse_2 3 = .ok (.iload_n 1, 1) := dk_27 (dk_at dksX9_lambda_pulse_2_0 3 rfl rfl)
theorem dX9_lambda_pulse_2_4 : decode cX9_lambda_pulse_2 4 = .ok (.irem, 1) := dk_112 (dk_at dksX9_lambda_pulse_2_0 4 rfl rfl)
theorem dX9_lambda_pulse_2_5 : decode cX9_lambda_pulse_2 5 = .ok (.ifCond .ne 7, 3) := dk_154 0 7 (dk_at dksX9_lambda_pulse_2_0 5 rfl rfl)
theorem dX9_lambda_pulse_2_8 : decode cX9_lambda_pulse_2 8 = .ok (.iload_n 2, 1) := dk_28 (dk_at dksX9_lambda_pulse_2_0 8 rfl rfl)
theorem dX9_lambda_pulse_2_9 : decode cX9_lambda_pulse_2 9 = .ok (.goto 4, 3) := dk_167 0 4 (dk_at dksX9_lambda_pulse_2_0 9 rfl rfl)
theorem dX9_lambda_pulse_2_12 : decode cX9_lambda_pulse_2 12 = .ok (.iconst 0, 1) := dk_3 (dk_at dksX9_lambda_pulse_2_0 12 rfl rfl)
theorem dX9_lambda_pulse_2_13 : decode cX9_lambda_pulse_2 13 = .ok (.ireturn, 1) := dk_172 (dk_at dksX9_lambda_pulse_2_0 13 rfl rfl)
abbrev cX9_noise : ByteArray := prog_12_method_5_code
def yX9_noise : MethodName := ⟨RX9, "noise", "(II)LAcousticCamera$Wave;"⟩
def dkwX9_noise_0 : List UInt8 := [27, 26, 186, 0, 13, 0, 0, 176]
abbrev dktX9_noise_0 : List UInt8 := dkwX9_noise_0 ++ []
theorem dksX9_noise_0 : cX9_noise.data.toList.drop 0 = dktX9_noise_0 := by decide +kernel
theorem dX9_noise_0 : decode cX9_noise 0 = .ok (.iload_n 1, 1) := dk_27 (dk_at dksX9_noise_0 0 rfl rfl)
theorem dX9_noise_1 : decode cX9_noise 1 = .ok (.iload_n 0, 1) := dk_26 (dk_at dksX9_noise_0 1 rfl rfl)
theorem dX9_noise_2 : decode cX9_noise 2 = .ok (.invokedynamic 13, 5) := by decide +kernel
theorem dX9_noise_7 : decode cX9_noise 7 = .ok (.areturn, 1) := dk_176 (dk_at dksX9_noise_0 7 rfl rfl)
abbrev cX9_lambda_noise_3 : ByteArray := prog_12_method_6_code
def yX9_lambda_noise_3 : MethodName := ⟨RX9, "lambda$noise$3", "(III)I"⟩
def dkwX9_lambda_noise_3_1 : List UInt8 := [27, 104, 4, 96, 133, 113, 136, 27, 100, 172]
abbrev dktX9_lambda_noise_3_1 : List UInt8 := dkwX9_lambda_noise_3_1 ++ []
def dkwX9_lambda_noise_3_0 : List UInt8 := [20, 0, 16, 28, 133, 105, 28, 133, 105, 20, 0, 18, 28, 133, 105, 97, 20, 0, 20, 26, 133, 105, 97, 5]
abbrev dktX9_lambda_noise_3_0 : List UInt8 := dkwX9_lambda_noise_3_0 ++ dktX9_lambda_noise_3_1
theorem dksX9_lambda_noise_3_0 : cX9_lambda_noise_3.data.toList.drop 0 = dktX9_lambda_noise_3_0 := by decide +kernel
theorem dksX9_lambda_noise_3_1 : cX9_lambda_noise_3.data.toList.drop 24 = dktX9_lambda_noise_3_1 := dk_seg dksX9_lambda_noise_3_0 24 rfl rfl
theorem dX9_lambda_noise_3_0 : decode cX9_lambda_noise_3 0 = .ok (.ldc2_w 16, 3) := dk_20 0 16 (dk_at dksX9_lambda_noise_3_0 0 rfl rfl)
theorem dX9_lambda_noise_3_3 : decode cX9_lambda_noise_3 3 = .ok (.iload_n 2, 1) := dk_28 (dk_at dksX9_lambda_noise_3_0 3 rfl rfl)
theorem dX9_lambda_noise_3_4 : decode cX9_lambda_noise_3 4 = .ok (.i2l, 1) := dk_133 (dk_at dksX9_lambda_noise_3_0 4 rfl rfl)
theorem dX9_lambda_noise_3_5 : decode cX9_lambda_noise_3 5 = .ok (.lmul, 1) := dk_105 (dk_at dksX9_lambda_noise_3_0 5 rfl rfl)
theorem dX9_lambda_noise_3_6 : decode cX9_lambda_noise_3 6 = .ok (.iload_n 2, 1) := dk_28 (dk_at dksX9_lambda_noise_3_0 6 rfl rfl)
theorem dX9_lambda_noise_3_7 : decode cX9_lambda_noise_3 7 = .ok (.i2l, 1) := dk_133 (dk_at dksX9_lambda_noise_3_0 7 rfl rfl)
theorem dX9_lambda_noise_3_8 : decode cX9_lambda_noise_3 8 = .ok (.lmul, 1) := dk_105 (dk_at dksX9_lambda_noise_3_0 8 rfl rfl)
theorem dX9_lambda_noise_3_9 : decode cX9_lambda_noise_3 9 = .ok (.ldc2_w 18, 3) := dk_20 0 18 (dk_at dksX9_lambda_noise_3_0 9 rfl rfl)
theorem dX9_lambda_noise_3_12 : decode cX9_lambda_noise_3 12 = .ok (.iload_n 2, 1) := dk_28 (dk_at dksX9_lambda_noise_3_0 12 rfl rfl)
theorem dX9_lambda_noise_3_13 : decode cX9_lambda_noise_3 13 = .ok (.i2l, 1) := dk_133 (dk_at dksX9_lambda_noise_3_0 13 rfl rfl)
theorem dX9_lambda_noise_3_14 : decode cX9_lambda_noise_3 14 = .ok (.lmul, 1) := dk_105 (dk_at dksX9_lambda_noise_3_0 14 rfl rfl)
theorem dX9_lambda_noise_3_15 : decode cX9_lambda_noise_3 15 = .ok (.ladd, 1) := dk_97 (dk_at dksX9_lambda_noise_3_0 15 rfl rfl)
theorem dX9_lambda_noise_3_16 : decode cX9_lambda_noise_3 16 = .ok (.ldc2_w 20, 3) := dk_20 0 20 (dk_at dksX9_lambda_noise_3_0 16 rfl rfl)
theorem dX9_lambda_noise_3_19 : decode cX9_lambda_noise_3 19 = .ok (.iload_n 0, 1) := dk_26 (dk_at dksX9_lambda_noise_3_0 19 rfl rfl)
theorem dX9_lambda_noise_3_20 : decode cX9_lambda_noise_3 20 = .ok (.i2l, 1) := dk_133 (dk_at dksX9_lambda_noise_3_0 20 rfl rfl)
theorem dX9_lambda_noise_3_21 : decode cX9_lambda_noise_3 21 = .ok (.lmul, 1) := dk_105 (dk_at dksX9_lambda_noise_3_0 21 rfl rfl)
theorem dX9_lambda_noise_3_22 : decode cX9_lambda_noise_3 22 = .ok (.ladd, 1) := dk_97 (dk_at dksX9_lambda_noise_3_0 22 rfl rfl)
theorem dX9_lambda_noise_3_23 : decode cX9_lambda_noise_3 23 = .ok (.iconst 2, 1) := dk_5 (dk_at dksX9_lambda_noise_3_0 23 rfl rfl)
theorem dX9_lambda_noise_3_24 : decode cX9_lambda_noise_3 24 = .ok (.iload_n 1, 1) := dk_27 (dk_at dksX9_lambda_noise_3_1 0 rfl rfl)
theorem dX9_lambda_noise_3_25 : decode cX9_lambda_noise_3 25 = .ok (.imul, 1) := dk_104 (dk_at dksX9_lambda_noise_3_1 1 rfl rfl)
theorem dX9_lambda_noise_3_26 : decode cX9_lambda_noise_3 26 = .ok (.iconst 1, 1) := dk_4 (dk_at dksX9_lambda_noise_3_1 2 rfl rfl)
theorem dX9_lambda_noise_3_27 : decode cX9_lambda_noise_3 27 = .ok (.iadd, 1) := dk_96 (dk_at dksX9_lambda_noise_3_1 3 rfl rfl)
theorem dX9_lambda_noise_3_28 : decode cX9_lambda_noise_3 28 = .ok (.i2l, 1) := dk_133 (dk_at dksX9_lambda_noise_3_1 4 rfl rfl)
theorem dX9_lambda_noise_3_29 : decode cX9_lambda_noise_3 29 = .ok (.lrem, 1) := dk_113 (dk_at dksX9_lambda_noise_3_1 5 rfl rfl)
theorem dX9_lambda_noise_3_30 : decode cX9_lambda_noise_3 30 = .ok (.l2i, 1) := dk_136 (dk_at dksX9_lambda_noise_3_1 6 rfl rfl)
theorem dX9_lambda_noise_3_31 : decode cX9_lambda_noise_3 31 = .ok (.iload_n 1, 1) := dk_27 (dk_at dksX9_lambda_noise_3_1 7 rfl rfl)
theorem dX9_lambda_noise_3_32 : decode cX9_lambda_noise_3 32 = .ok (.isub, 1) := dk_100 (dk_at dksX9_lambda_noise_3_1 8 rfl rfl)
theorem dX9_lambda_noise_3_33 : decode cX9_lambda_noise_3 33 = .ok (.ireturn, 1) := dk_172 (dk_at dksX9_lambda_noise_3_1 9 rfl rfl)
