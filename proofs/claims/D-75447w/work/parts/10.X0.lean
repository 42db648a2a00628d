/-! decode rows: X0.AcousticCameraLaw.lean.txt -/
set_option maxRecDepth 100000
abbrev cX0_load : ByteArray := method_3_code
def yX0_load : MethodName := ⟨RX0, "load", "(LAcousticCamera;I[J)I"⟩
def dkwX0_load_0 : List UInt8 := [44, 3, 42, 27, 182, 0, 7, 133, 80, 167, 0, 9, 78, 4, 172, 78, 5, 172, 3, 172]
abbrev dktX0_load_0 : List UInt8 := dkwX0_load_0 ++ []
theorem dksX0_load_0 : cX0_load.data.toList.drop 0 = dktX0_load_0 := by decide +kernel
theorem dX0_load_0 : decode cX0_load 0 = .ok (.aload_n 2, 1) := dk_44 (dk_at dksX0_load_0 0 rfl rfl)
theorem dX0_load_1 : decode cX0_load 1 = .ok (.iconst 0, 1) := dk_3 (dk_at dksX0_load_0 1 rfl rfl)
theorem dX0_load_2 : decode cX0_load 2 = .ok (.aload_n 0, 1) := dk_42 (dk_at dksX0_load_0 2 rfl rfl)
theorem dX0_load_3 : decode cX0_load 3 = .ok (.iload_n 1, 1) := dk_27 (dk_at dksX0_load_0 3 rfl rfl)
theorem dX0_load_4 : decode cX0_load 4 = .ok (.invokevirtual 7, 3) := dk_182 0 7 (dk_at dksX0_load_0 4 rfl rfl)
theorem dX0_load_7 : decode cX0_load 7 = .ok (.i2l, 1) := dk_133 (dk_at dksX0_load_0 7 rfl rfl)
theorem dX0_load_8 : decode cX0_load 8 = .ok (.lastore, 1) := dk_80 (dk_at dksX0_load_0 8 rfl rfl)
theorem dX0_load_9 : decode cX0_load 9 = .ok (.goto 9, 3) := dk_167 0 9 (dk_at dksX0_load_0 9 rfl rfl)
theorem dX0_load_12 : decode cX0_load 12 = .ok (.astore_n 3, 1) := dk_78 (dk_at dksX0_load_0 12 rfl rfl)
theorem dX0_load_13 : decode cX0_load 13 = .ok (.iconst 1, 1) := dk_4 (dk_at dksX0_load_0 13 rfl rfl)
theorem dX0_load_14 : decode cX0_load 14 = .ok (.ireturn, 1) := dk_172 (dk_at dksX0_load_0 14 rfl rfl)
theorem dX0_load_15 : decode cX0_load 15 = .ok (.astore_n 3, 1) := dk_78 (dk_at dksX0_load_0 15 rfl rfl)
theorem dX0_load_16 : decode cX0_load 16 = .ok (.iconst 2, 1) := dk_5 (dk_at dksX0_load_0 16 rfl rfl)
theorem dX0_load_17 : decode cX0_load 17 = .ok (.ireturn, 1) := dk_172 (dk_at dksX0_load_0 17 rfl rfl)
theorem dX0_load_18 : decode cX0_load 18 = .ok (.iconst 0, 1) := dk_3 (dk_at dksX0_load_0 18 rfl rfl)
theorem dX0_load_19 : decode cX0_load 19 = .ok (.ireturn, 1) := dk_172 (dk_at dksX0_load_0 19 rfl rfl)
abbrev cX0_micAt : ByteArray := method_4_code
def yX0_micAt : MethodName := ⟨RX0, "micAt", "(LAcousticCamera;II[J)I"⟩
def dkwX0_micAt_1 : List UInt8 := [172, 3, 172]
abbrev dktX0_micAt_1 : List UInt8 := dkwX0_micAt_1 ++ []
def dkwX0_micAt_0 : List UInt8 := [45, 3, 42, 27, 28, 182, 0, 17, 133, 80, 167, 0, 15, 58, 4, 4, 172, 58, 4, 5, 172, 58, 4, 6]
abbrev dktX0_micAt_0 : List UInt8 := dkwX0_micAt_0 ++ dktX0_micAt_1
theorem dksX0_micAt_0 : cX0_micAt.data.toList.drop 0 = dktX0_micAt_0 := by decide +kernel
theorem dksX0_micAt_1 : cX0_micAt.data.toList.drop 24 = dktX0_micAt_1 := dk_seg dksX0_micAt_0 24 rfl rfl
theorem dX0_micAt_0 : decode cX0_micAt 0 = .ok (.aload_n 3, 1) := dk_45 (dk_at dksX0_micAt_0 0 rfl rfl)
theorem dX0_micAt_1 : decode cX0_micAt 1 = .ok (.iconst 0, 1) := dk_3 (dk_at dksX0_micAt_0 1 rfl rfl)
theorem dX0_micAt_2 : decode cX0_micAt 2 = .ok (.aload_n 0, 1) := dk_42 (dk_at dksX0_micAt_0 2 rfl rfl)
theorem dX0_micAt_3 : decode cX0_micAt 3 = .ok (.iload_n 1, 1) := dk_27 (dk_at dksX0_micAt_0 3 rfl rfl)
theorem dX0_micAt_4 : decode cX0_micAt 4 = .ok (.iload_n 2, 1) := dk_28 (dk_at dksX0_micAt_0 4 rfl rfl)
theorem dX0_micAt_5 : decode cX0_micAt 5 = .ok (.invokevirtual 17, 3) := dk_182 0 17 (dk_at dksX0_micAt_0 5 rfl rfl)
theorem dX0_micAt_8 : decode cX0_micAt 8 = .ok (.i2l, 1) := dk_133 (dk_at dksX0_micAt_0 8 rfl rfl)
theorem dX0_micAt_9 : decode cX0_micAt 9 = .ok (.lastore, 1) := dk_80 (dk_at dksX0_micAt_0 9 rfl rfl)
theorem dX0_micAt_10 : decode cX0_micAt 10 = .ok (.goto 15, 3) := dk_167 0 15 (dk_at dksX0_micAt_0 10 rfl rfl)
theorem dX0_micAt_13 : decode cX0_micAt 13 = .ok (.astore 4, 2) := dk_58 4 (dk_at dksX0_micAt_0 13 rfl rfl)
theorem dX0_micAt_15 : decode cX0_micAt 15 = .ok (.iconst 1, 1) := dk_4 (dk_at dksX0_micAt_0 15 rfl rfl)
theorem dX0_micAt_16 : decode cX0_micAt 16 = .ok (.ireturn, 1) := dk_172 (dk_at dksX0_micAt_0 16 rfl rfl)
theorem dX0_micAt_17 : decode cX0_micAt 17 = .ok (.astore 4, 2) := dk_58 4 (dk_at dksX0_micAt_0 17 rfl rfl)
theorem dX0_micAt_19 : decode cX0_micAt 19 = .ok (.iconst 2, 1) := dk_5 (dk_at dksX0_micAt_0 19 rfl rfl)
theorem dX0_micAt_20 : decode cX0_micAt 20 = .ok (.ireturn, 1) := dk_172 (dk_at dksX0_micAt_0 20 rfl rfl)
theorem dX0_micAt_21 : decode cX0_micAt 21 = .ok (.astore 4, 2) := dk_58 4 (dk_at dksX0_micAt_0 21 rfl rfl)
theorem dX0_micAt_23 : decode cX0_micAt 23 = .ok (.iconst 3, 1) := dk_6 (dk_at dksX0_micAt_0 23 rfl rfl)
theorem dX0_micAt_24 : decode cX0_micAt 24 = .ok (.ireturn, 1) := dk_172 (dk_at dksX0_micAt_1 0 rfl rfl)
theorem dX0_micAt_25 : decode cX0_micAt 25 = .ok (.iconst 0, 1) := dk_3 (dk_at dksX0_micAt_1 1 rfl rfl)
theorem dX0_micAt_26 : decode cX0_micAt 26 = .ok (.ireturn, 1) := dk_172 (dk_at dksX0_micAt_1 2 rfl rfl)
abbrev cX0_isMuted : ByteArray := method_5_code
def yX0_isMuted : MethodName := ⟨RX0, "isMuted", "(LAcousticCamera;I[J)I"⟩
def dkwX0_isMuted_1 : List UInt8 := [172, 3, 172]
abbrev dktX0_isMuted_1 : List UInt8 := dkwX0_isMuted_1 ++ []
def dkwX0_isMuted_0 : List UInt8 := [44, 3, 42, 27, 182, 0, 23, 153, 0, 7, 10, 167, 0, 4, 9, 80, 167, 0, 9, 78, 4, 172, 78, 5]
abbrev dktX0_isMuted_0 : List UInt8 := dkwX0_isMuted_0 ++ dktX0_isMuted_1
theorem dksX0_isMuted_0 : cX0_isMuted.data.toList.drop 0 = dktX0_isMuted_0 := by decide +kernel
theorem dksX0_isMuted_1 : cX0_isMuted.data.toList.drop 24 = dktX0_isMuted_1 := dk_seg dksX0_isMuted_0 24 rfl rfl
theorem dX0_isMuted_0 : decode cX0_isMuted 0 = .ok (.aload_n 2, 1) := dk_44 (dk_at dksX0_isMuted_0 0 rfl rfl)
theorem dX0_isMuted_1 : decode cX0_isMuted 1 = .ok (.iconst 0, 1) := dk_3 (dk_at dksX0_isMuted_0 1 rfl rfl)
theorem dX0_isMuted_2 : decode cX0_isMuted 2 = .ok (.aload_n 0, 1) := dk_42 (dk_at dksX0_isMuted_0 2 rfl rfl)
theorem dX0_isMuted_3 : decode cX0_isMuted 3 = .ok (.iload_n 1, 1) := dk_27 (dk_at dksX0_isMuted_0 3 rfl rfl)
theorem dX0_isMuted_4 : decode cX0_isMuted 4 = .ok (.invokevirtual 23, 3) := dk_182 0 23 (dk_at dksX0_isMuted_0 4 rfl rfl)
theorem dX0_isMuted_7 : decode cX0_isMuted 7 = .ok (.ifCond .eq 7, 3) := dk_153 0 7 (dk_at dksX0_isMuted_0 7 rfl rfl)
theorem dX0_isMuted_10 : decode cX0_isMuted 10 = .ok (.lconst 1, 1) := dk_10 (dk_at dksX0_isMuted_0 10 rfl rfl)
theorem dX0_isMuted_11 : decode cX0_isMuted 11 = .ok (.goto 4, 3) := dk_167 0 4 (dk_at dksX0_isMuted_0 11 rfl rfl)
theorem dX0_isMuted_14 : decode cX0_isMuted 14 = .ok (.lconst 0, 1) := dk_9 (dk_at dksX0_isMuted_0 14 rfl rfl)
theorem dX0_isMuted_15 : decode cX0_isMuted 15 = .ok (.lastore, 1) := dk_80 (dk_at dksX0_isMuted_0 15 rfl rfl)
theorem dX0_isMuted_16 : decode cX0_isMuted 16 = .ok (.goto 9, 3) := dk_167 0 9 (dk_at dksX0_isMuted_0 16 rfl rfl)
theorem dX0_isMuted_19 : decode cX0_isMuted 19 = .ok (.astore_n 3, 1) := dk_78 (dk_at dksX0_isMuted_0 19 rfl rfl)
theorem dX0_isMuted_20 : decode cX0_isMuted 20 = .ok (.iconst 1, 1) := dk_4 (dk_at dksX0_isMuted_0 20 rfl rfl)
theorem dX0_isMuted_21 : decode cX0_isMuted 21 = .ok (.ireturn, 1) := dk_172 (dk_at dksX0_isMuted_0 21 rfl rfl)
theorem dX0_isMuted_22 : decode cX0_isMuted 22 = .ok (.astore_n 3, 1) := dk_78 (dk_at dksX0_isMuted_0 22 rfl rfl)
theorem dX0_isMuted_23 : decode cX0_isMuted 23 = .ok (.iconst 2, 1) := dk_5 (dk_at dksX0_isMuted_0 23 rfl rfl)
theorem dX0_isMuted_24 : decode cX0_isMuted 24 = .ok (.ireturn, 1) := dk_172 (dk_at dksX0_isMuted_1 0 rfl rfl)
theorem dX0_isMuted_25 : decode cX0_isMuted 25 = .ok (.iconst 0, 1) := dk_3 (dk_at dksX0_isMuted_1 1 rfl rfl)
theorem dX0_isMuted_26 : decode cX0_isMuted 26 = .ok (.ireturn, 1) := dk_172 (dk_at dksX0_isMuted_1 2 rfl rfl)
abbrev cX0_cellAt : ByteArray := method_6_code
def yX0_cellAt : MethodName := ⟨RX0, "cellAt", "(LAcousticCamera;II[J)I"⟩
def dkwX0_cellAt_1 : List UInt8 := [172, 3, 172]
abbrev dktX0_cellAt_1 : List UInt8 := dkwX0_cellAt_1 ++ []
def dkwX0_cellAt_0 : List UInt8 := [45, 3, 42, 27, 28, 182, 0, 27, 133, 80, 167, 0, 15, 58, 4, 4, 172, 58, 4, 5, 172, 58, 4, 6]
abbrev dktX0_cellAt_0 : List UInt8 := dkwX0_cellAt_0 ++ dktX0_cellAt_1
theorem dksX0_cellAt_0 : cX0_cellAt.data.toList.drop 0 = dktX0_cellAt_0 := by decide +kernel
theorem dksX0_cellAt_1 : cX0_cellAt.data.toList.drop 24 = dktX0_cellAt_1 := dk_seg dksX0_cellAt_0 24 rfl rfl
theorem dX0_cellAt_0 : decode cX0_cellAt 0 = .ok (.aload_n 3, 1) := dk_45 (dk_at dksX0_cellAt_0 0 rfl rfl)
theorem dX0_cellAt_1 : decode cX0_cellAt 1 = .ok (.iconst 0, 1) := dk_3 (dk_at dksX0_cellAt_0 1 rfl rfl)
theorem dX0_cellAt_2 : decode cX0_cellAt 2 = .ok (.aload_n 0, 1) := dk_42 (dk_at dksX0_cellAt_0 2 rfl rfl)
theorem dX0_cellAt_3 : decode cX0_cellAt 3 = .ok (.iload_n 1, 1) := dk_27 (dk_at dksX0_cellAt_0 3 rfl rfl)
theorem dX0_cellAt_4 : decode cX0_cellAt 4 = .ok (.iload_n 2, 1) := dk_28 (dk_at dksX0_cellAt_0 4 rfl rfl)
theorem dX0_cellAt_5 : decode cX0_cellAt 5 = .ok (.invokevirtual 27, 3) := dk_182 0 27 (dk_at dksX0_cellAt_0 5 rfl rfl)
theorem dX0_cellAt_8 : decode cX0_cellAt 8 = .ok (.i2l, 1) := dk_133 (dk_at dksX0_cellAt_0 8 rfl rfl)
theorem dX0_cellAt_9 : decode cX0_cellAt 9 = .ok (.lastore, 1) := dk_80 (dk_at dksX0_cellAt_0 9 rfl rfl)
theorem dX0_cellAt_10 : decode cX0_cellAt 10 = .ok (.goto 15, 3) := dk_167 0 15 (dk_at dksX0_cellAt_0 10 rfl rfl)
theorem dX0_cellAt_13 : decode cX0_cellAt 13 = .ok (.astore 4, 2) := dk_58 4 (dk_at dksX0_cellAt_0 13 rfl rfl)
theorem dX0_cellAt_15 : decode cX0_cellAt 15 = .ok (.iconst 1, 1) := dk_4 (dk_at dksX0_cellAt_0 15 rfl rfl)
theorem dX0_cellAt_16 : decode cX0_cellAt 16 = .ok (.ireturn, 1) := dk_172 (dk_at dksX0_cellAt_0 16 rfl rfl)
theorem dX0_cellAt_17 : decode cX0_cellAt 17 = .ok (.astore 4, 2) := dk_58 4 (dk_at dksX0_cellAt_0 17 rfl rfl)
theorem dX0_cellAt_19 : decode cX0_cellAt 19 = .ok (.iconst 2, 1) := dk_5 (dk_at dksX0_cellAt_0 19 rfl rfl)
theorem dX0_cellAt_20 : decode cX0_cellAt 20 = .ok (.ireturn, 1) := dk_172 (dk_at dksX0_cellAt_0 20 rfl rfl)
theorem dX0_cellAt_21 : decode cX0_cellAt 21 = .ok (.astore 4, 2) := dk_58 4 (dk_at dksX0_cellAt_0 21 rfl rfl)
theorem dX0_cellAt_23 : decode cX0_cellAt 23 = .ok (.iconst 3, 1) := dk_6 (dk_at dksX0_cellAt_0 23 rfl rfl)
theorem dX0_cellAt_24 : decode cX0_cellAt 24 = .ok (.ireturn, 1) := dk_172 (dk_at dksX0_cellAt_1 0 rfl rfl)
theorem dX0_cellAt_25 : decode cX0_cellAt 25 = .ok (.iconst 0, 1) := dk_3 (dk_at dksX0_cellAt_1 1 rfl rfl)
theorem dX0_cellAt_26 : decode cX0_cellAt 26 = .ok (.ireturn, 1) := dk_172 (dk_at dksX0_cellAt_1 2 rfl rfl)
abbrev cX0_sourceAt : ByteArray := method_7_code
def yX0_sourceAt : MethodName := ⟨RX0, "sourceAt", "(LAcousticCamera;III[J)I"⟩
def dkwX0_sourceAt_1 : List UInt8 := [58, 5, 6, 172, 3, 172]
abbrev dktX0_sourceAt_1 : List UInt8 := dkwX0_sourceAt_1 ++ []
def dkwX0_sourceAt_0 : List UInt8 := [25, 4, 3, 42, 27, 28, 29, 182, 0, 30, 133, 80, 167, 0, 15, 58, 5, 4, 172, 58, 5, 5, 172]
abbrev dktX0_sourceAt_0 : List UInt8 := dkwX0_sourceAt_0 ++ dktX0_sourceAt_1
theorem dksX0_sourceAt_0 : cX0_sourceAt.data.toList.drop 0 = dktX0_sourceAt_0 := by decide +kernel
theorem dksX0_sourceAt_1 : cX0_sourceAt.data.toList.drop 23 = dktX0_sourceAt_1 := dk_seg dksX0_sourceAt_0 23 rfl rfl
theorem dX0_sourceAt_0 : decode cX0_sourceAt 0 = .ok (.aload 4, 2) := dk_25 4 (dk_at dksX0_sourceAt_0 0 rfl rfl)
theorem dX0_sourceAt_2 : decode cX0_sourceAt 2 = .ok (.iconst 0, 1) := dk_3 (dk_at dksX0_sourceAt_0 2 rfl rfl)
theorem dX0_sourceAt_3 : decode cX0_sourceAt 3 = .ok (.aload_n 0, 1) := dk_42 (dk_at dksX0_sourceAt_0 3 rfl rfl)
theorem dX0_sourceAt_4 : decode cX0_sourceAt 4 = .ok (.iload_n 1, 1) := dk_27 (dk_at dksX0_sourceAt_0 4 rfl rfl)
theorem dX0_sourceAt_5 : decode cX0_sourceAt 5 = .ok (.iload_n 2, 1) := dk_28 (dk_at dksX0_sourceAt_0 5 rfl rfl)
theorem dX0_sourceAt_6 : decode cX0_sourceAt 6 = .ok (.iload_n 3, 1) := dk_29 (dk_at dksX0_sourceAt_0 6 rfl rfl)
theorem dX0_sourceAt_7 : decode cX0_sourceAt 7 = .ok (.invokevirtual 30, 3) := dk_182 0 30 (dk_at dksX0_sourceAt_0 7 rfl rfl)
theorem dX0_sourceAt_10 : decode cX0_sourceAt 10 = .ok (.i2l, 1) := dk_133 (dk_at dksX0_sourceAt_0 10 rfl rfl)
theorem dX0_sourceAt_11 : decode cX0_sourceAt 11 = .ok (.lastore, 1) := dk_80 (dk_at dksX0_sourceAt_0 11 rfl rfl)
theorem dX0_sourceAt_12 : decode cX0_sourceAt 12 = .ok (.goto 15, 3) := dk_167 0 15 (dk_at dksX0_sourceAt_0 12 rfl rfl)
theorem dX0_sourceAt_15 : decode cX0_sourceAt 15 = .ok (.astore 5, 2) := dk_58 5 (dk_at dksX0_sourceAt_0 15 rfl rfl)
theorem dX0_sourceAt_17 : decode cX0_sourceAt 17 = .ok (.iconst 1, 1) := dk_4 (dk_at dksX0_sourceAt_0 17 rfl rfl)
theorem dX0_sourceAt_18 : decode cX0_sourceAt 18 = .ok (.ireturn, 1) := dk_172 (dk_at dksX0_sourceAt_0 18 rfl rfl)
theorem dX0_sourceAt_19 : decode cX0_sourceAt 19 = .ok (.astore 5, 2) := dk_58 5 (dk_at dksX0_sourceAt_0 19 rfl rfl)
theorem dX0_sourceAt_21 : decode cX0_sourceAt 21 = .ok (.iconst 2, 1) := dk_5 (dk_at dksX0_sourceAt_0 21 rfl rfl)
theorem dX0_sourceAt_22 : decode cX0_sourceAt 22 = .ok (.ireturn, 1) := dk_172 (dk_at dksX0_sourceAt_0 22 rfl rfl)
theorem dX0_sourceAt_23 : decode cX0_sourceAt 23 = .ok (.astore 5, 2) := dk_58 5 (dk_at dksX0_sourceAt_1 0 rfl rfl)
theorem dX0_sourceAt_25 : decode cX0_sourceAt 25 = .ok (.iconst 3, 1) := dk_6 (dk_at dksX0_sourceAt_1 2 rfl rfl)
theorem dX0_sourceAt_26 : decode cX0_sourceAt 26 = .ok (.ireturn, 1) := dk_172 (dk_at dksX0_sourceAt_1 3 rfl rfl)
theorem dX0_sourceAt_27 : decode cX0_sourceAt 27 = .ok (.iconst 0, 1) := dk_3 (dk_at dksX0_sourceAt_1 4 rfl rfl)
theorem dX0_sourceAt_28 : decode cX0_sourceAt 28 = .ok (.ireturn, 1) := dk_172 (dk_at dksX0_sourceAt_1 5 rfl rfl)
abbrev cX0_isOn : ByteArray := method_8_code
def yX0_isOn : MethodName := ⟨RX0, "isOn", "(LAcousticCamera;I[J)I"⟩
def dkwX0_isOn_1 : List UInt8 := [172, 3, 172]
abbrev dktX0_isOn_1 : List UInt8 := dkwX0_isOn_1 ++ []
def dkwX0_isOn_0 : List UInt8 := [44, 3, 42, 27, 182, 0, 34, 153, 0, 7, 10, 167, 0, 4, 9, 80, 167, 0, 9, 78, 4, 172, 78, 5]
abbrev dktX0_isOn_0 : List UInt8 := dkwX0_isOn_0 ++ dktX0_isOn_1
theorem dksX0_isOn_0 : cX0_isOn.data.toList.drop 0 = dktX0_isOn_0 := by decide +kernel
theorem dksX0_isOn_1 : cX0_isOn.data.toList.drop 24 = dktX0_isOn_1 := dk_seg dksX0_isOn_0 24 rfl rfl
theorem dX0_isOn_0 : decode cX0_isOn 0 = .ok (.aload_n 2, 1) := dk_44 (dk_at dksX0_isOn_0 0 rfl rfl)
theorem dX0_isOn_1 : decode cX0_isOn 1 = .ok (.iconst 0, 1) := dk_3 (dk_at dksX0_isOn_0 1 rfl rfl)
theorem dX0_isOn_2 : decode cX0_isOn 2 = .ok (.aload_n 0, 1) := dk_42 (dk_at dksX0_isOn_0 2 rfl rfl)
theorem dX0_isOn_3 : decode cX0_isOn 3 = .ok (.iload_n 1, 1) := dk_27 (dk_at dksX0_isOn_0 3 rfl rfl)
theorem dX0_isOn_4 : decode cX0_isOn 4 = .ok (.invokevirtual 34, 3) := dk_182 0 34 (dk_at dksX0_isOn_0 4 rfl rfl)
theorem dX0_isOn_7 : decode cX0_isOn 7 = .ok (.ifCond .eq 7, 3) := dk_153 0 7 (dk_at dksX0_isOn_0 7 rfl rfl)
theorem dX0_isOn_10 : decode cX0_isOn 10 = .ok (.lconst 1, 1) := dk_10 (dk_at dksX0_isOn_0 10 rfl rfl)
theorem dX0_isOn_11 : decode cX0_isOn 11 = .ok (.goto 4, 3) := dk_167 0 4 (dk_at dksX0_isOn_0 11 rfl rfl)
theorem dX0_isOn_14 : decode cX0_isOn 14 = .ok (.lconst 0, 1) := dk_9 (dk_at dksX0_isOn_0 14 rfl rfl)
theorem dX0_isOn_15 : decode cX0_isOn 15 = .ok (.lastore, 1) := dk_80 (dk_at dksX0_isOn_0 15 rfl rfl)
theorem dX0_isOn_16 : decode cX0_isOn 16 = .ok (.goto 9, 3) := dk_167 0 9 (dk_at dksX0_isOn_0 16 rfl rfl)
theorem dX0_isOn_19 : decode cX0_isOn 19 = .ok (.astore_n 3, 1) := dk_78 (dk_at dksX0_isOn_0 19 rfl rfl)
theorem dX0_isOn_20 : decode cX0_isOn 20 = .ok (.iconst 1, 1) := dk_4 (dk_at dksX0_isOn_0 20 rfl rfl)
theorem dX0_isOn_21 : decode cX0_isOn 21 = .ok (.ireturn, 1) := dk_172 (dk_at dksX0_isOn_0 21 rfl rfl)
theorem dX0_isOn_22 : decode cX0_isOn 22 = .ok (.astore_n 3, 1) := dk_78 (dk_at dksX0_isOn_0 22 rfl rfl)
theorem dX0_isOn_23 : decode cX0_isOn 23 = .ok (.iconst 2, 1) := dk_5 (dk_at dksX0_isOn_0 23 rfl rfl)
theorem dX0_isOn_24 : decode cX0_isOn 24 = .ok (.ireturn, 1) := dk_172 (dk_at dksX0_isOn_1 0 rfl rfl)
theorem dX0_isOn_25 : decode cX0_isOn 25 = .ok (.iconst 0, 1) := dk_3 (dk_at dksX0_isOn_1 1 rfl rfl)
theorem dX0_isOn_26 : decode cX0_isOn 26 = .ok (.ireturn, 1) := dk_172 (dk_at dksX0_isOn_1 2 rfl rfl)
abbrev cX0_waveAt : ByteArray := method_9_code
def yX0_waveAt : MethodName := ⟨RX0, "waveAt", "(LAcousticCamera;II[J)I"⟩
def dkwX0_waveAt_1 : List UInt8 := [172, 3, 172]
abbrev dktX0_waveAt_1 : List UInt8 := dkwX0_waveAt_1 ++ []
def dkwX0_waveAt_0 : List UInt8 := [45, 3, 42, 27, 28, 182, 0, 37, 133, 80, 167, 0, 15, 58, 4, 4, 172, 58, 4, 5, 172, 58, 4, 6]
abbrev dktX0_waveAt_0 : List UInt8 := dkwX0_waveAt_0 ++ dktX0_waveAt_1
theorem dksX0_waveAt_0 : cX0_waveAt.data.toList.drop 0 = dktX0_waveAt_0 := by decide +kernel
theorem dksX0_waveAt_1 : cX0_waveAt.data.toList.drop 24 = dktX0_waveAt_1 := dk_seg dksX0_waveAt_0 24 rfl rfl
theorem dX0_waveAt_0 : decode cX0_waveAt 0 = .ok (.aload_n 3, 1) := dk_45 (dk_at dksX0_waveAt_0 0 rfl rfl)
theorem dX0_waveAt_1 : decode cX0_waveAt 1 = .ok (.iconst 0, 1) := dk_3 (dk_at dksX0_waveAt_0 1 rfl rfl)
theorem dX0_waveAt_2 : decode cX0_waveAt 2 = .ok (.aload_n 0, 1) := dk_42 (dk_at dksX0_waveAt_0 2 rfl rfl)
theorem dX0_waveAt_3 : decode cX0_waveAt 3 = .ok (.iload_n 1, 1) := dk_27 (dk_at dksX0_waveAt_0 3 rfl rfl)
theorem dX0_waveAt_4 : decode cX0_waveAt 4 = .ok (.iload_n 2, 1) := dk_28 (dk_at dksX0_waveAt_0 4 rfl rfl)
theorem dX0_waveAt_5 : decode cX0_waveAt 5 = .ok (.invokevirtual 37, 3) := dk_182 0 37 (dk_at dksX0_waveAt_0 5 rfl rfl)
theorem dX0_waveAt_8 : decode cX0_waveAt 8 = .ok (.i2l, 1) := dk_133 (dk_at dksX0_waveAt_0 8 rfl rfl)
theorem dX0_waveAt_9 : decode cX0_waveAt 9 = .ok (.lastore, 1) := dk_80 (dk_at dksX0_waveAt_0 9 rfl rfl)
theorem dX0_waveAt_10 : decode cX0_waveAt 10 = .ok (.goto 15, 3) := dk_167 0 15 (dk_at dksX0_waveAt_0 10 rfl rfl)
theorem dX0_waveAt_13 : decode cX0_waveAt 13 = .ok (.astore 4, 2) := dk_58 4 (dk_at dksX0_waveAt_0 13 rfl rfl)
theorem dX0_waveAt_15 : decode cX0_waveAt 15 = .ok (.iconst 1, 1) := dk_4 (dk_at dksX0_waveAt_0 15 rfl rfl)
theorem dX0_waveAt_16 : decode cX0_waveAt 16 = .ok (.ireturn, 1) := dk_172 (dk_at dksX0_waveAt_0 16 rfl rfl)
theorem dX0_waveAt_17 : decode cX0_waveAt 17 = .ok (.astore 4, 2) := dk_58 4 (dk_at dksX0_waveAt_0 17 rfl rfl)
theorem dX0_waveAt_19 : decode cX0_waveAt 19 = .ok (.iconst 2, 1) := dk_5 (dk_at dksX0_waveAt_0 19 rfl rfl)
theorem dX0_waveAt_20 : decode cX0_waveAt 20 = .ok (.ireturn, 1) := dk_172 (dk_at dksX0_waveAt_0 20 rfl rfl)
theorem dX0_waveAt_21 : decode cX0_waveAt 21 = .ok (.astore 4, 2) := dk_58 4 (dk_at dksX0_waveAt_0 21 rfl rfl)
theorem dX0_waveAt_23 : decode cX0_waveAt 23 = .ok (.iconst 3, 1) := dk_6 (dk_at dksX0_waveAt_0 23 rfl rfl)
theorem dX0_waveAt_24 : decode cX0_waveAt 24 = .ok (.ireturn, 1) := dk_172 (dk_at dksX0_waveAt_1 0 rfl rfl)
theorem dX0_waveAt_25 : decode cX0_waveAt 25 = .ok (.iconst 0, 1) := dk_3 (dk_at dksX0_waveAt_1 1 rfl rfl)
theorem dX0_waveAt_26 : decode cX0_waveAt 26 = .ok (.ireturn, 1) := dk_172 (dk_at dksX0_waveAt_1 2 rfl rfl)
abbrev cX0_delay : ByteArray := method_10_code
def yX0_delay : MethodName := ⟨RX0, "delay", "(LAcousticCamera;II[J)I"⟩
def dkwX0_delay_0 : List UInt8 := [45, 3, 42, 27, 28, 182, 0, 40, 133, 80, 167, 0, 11, 58, 4, 4, 172, 58, 4, 5, 172, 3, 172]
abbrev dktX0_delay_0 : List UInt8 := dkwX0_delay_0 ++ []
theorem dksX0_delay_0 : cX0_delay.data.toList.drop 0 = dktX0_delay_0 := by decide +kernel
theorem dX0_delay_0 : decode cX0_delay 0 = .ok (.aload_n 3, 1) := dk_45 (dk_at dksX0_delay_0 0 rfl rfl)
theorem dX0_delay_1 : decode cX0_delay 1 = .ok (.iconst 0, 1) := dk_3 (dk_at dksX0_delay_0 1 rfl rfl)
theorem dX0_delay_2 : decode cX0_delay 2 = .ok (.aload_n 0, 1) := dk_42 (dk_at dksX0_delay_0 2 rfl rfl)
theorem dX0_delay_3 : decode cX0_delay 3 = .ok (.iload_n 1, 1) := dk_27 (dk_at dksX0_delay_0 3 rfl rfl)
theorem dX0_delay_4 : decode cX0_delay 4 = .ok (.iload_n 2, 1) := dk_28 (dk_at dksX0_delay_0 4 rfl rfl)
theorem dX0_delay_5 : decode cX0_delay 5 = .ok (.invokevirtual 40, 3) := dk_182 0 40 (dk_at dksX0_delay_0 5 rfl rfl)
theorem dX0_delay_8 : decode cX0_delay 8 = .ok (.i2l, 1) := dk_133 (dk_at dksX0_delay_0 8 rfl rfl)
theorem dX0_delay_9 : decode cX0_delay 9 = .ok (.lastore, 1) := dk_80 (dk_at dksX0_delay_0 9 rfl rfl)
theorem dX0_delay_10 : decode cX0_delay 10 = .ok (.goto 11, 3) := dk_167 0 11 (dk_at dksX0_delay_0 10 rfl rfl)
theorem dX0_delay_13 : decode cX0_delay 13 = .ok (.astore 4, 2) := dk_58 4 (dk_at dksX0_delay_0 13 rfl rfl)
theorem dX0_delay_15 : decode cX0_delay 15 = .ok (.iconst 1, 1) := dk_4 (dk_at dksX0_delay_0 15 rfl rfl)
theorem dX0_delay_16 : decode cX0_delay 16 = .ok (.ireturn, 1) := dk_172 (dk_at dksX0_delay_0 16 rfl rfl)
theorem dX0_delay_17 : decode cX0_delay 17 = .ok (.astore 4, 2) := dk_58 4 (dk_at dksX0_delay_0 17 rfl rfl)
theorem dX0_delay_19 : decode cX0_delay 19 = .ok (.iconst 2, 1) := dk_5 (dk_at dksX0_delay_0 19 rfl rfl)
theorem dX0_delay_20 : decode cX0_delay 20 = .ok (.ireturn, 1) := dk_172 (dk_at dksX0_delay_0 20 rfl rfl)
theorem dX0_delay_21 : decode cX0_delay 21 = .ok (.iconst 0, 1) := dk_3 (dk_at dksX0_delay_0 21 rfl rfl)
theorem dX0_delay_22 : decode cX0_delay 22 = .ok (.ireturn, 1) := dk_172 (dk_at dksX0_delay_0 22 rfl rfl)
abbrev cX0_delayTo : ByteArray := method_11_code
def yX0_delayTo : MethodName := ⟨RX0, "delayTo", "(LAcousticCamera;III[J)I"⟩
def dkwX0_delayTo_1 : List UInt8 := [58, 5, 6, 172, 3, 172]
abbrev dktX0_delayTo_1 : List UInt8 := dkwX0_delayTo_1 ++ []
def dkwX0_delayTo_0 : List UInt8 := [25, 4, 3, 42, 27, 28, 29, 182, 0, 43, 133, 80, 167, 0, 15, 58, 5, 4, 172, 58, 5, 5, 172]
abbrev dktX0_delayTo_0 : List UInt8 := dkwX0_delayTo_0 ++ dktX0_delayTo_1
theorem dksX0_delayTo_0 : cX0_delayTo.data.toList.drop 0 = dktX0_delayTo_0 := by decide +kernel
theorem dksX0_delayTo_1 : cX0_delayTo.data.toList.drop 23 = dktX0_delayTo_1 := dk_seg dksX0_delayTo_0 23 rfl rfl
theorem dX0_delayTo_0 : decode cX0_delayTo 0 = .ok (.aload 4, 2) := dk_25 4 (dk_at dksX0_delayTo_0 0 rfl rfl)
theorem dX0_delayTo_2 : decode cX0_delayTo 2 = .ok (.iconst 0, 1) := dk_3 (dk_at dksX0_delayTo_0 2 rfl rfl)
theorem dX0_delayTo_3 : decode cX0_delayTo 3 = .ok (.aload_n 0, 1) := dk_42 (dk_at dksX0_delayTo_0 3 rfl rfl)
theorem dX0_delayTo_4 : decode cX0_delayTo 4 = .ok (.iload_n 1, 1) := dk_27 (dk_at dksX0_delayTo_0 4 rfl rfl)
theorem dX0_delayTo_5 : decode cX0_delayTo 5 = .ok (.iload_n 2, 1) := dk_28 (dk_at dksX0_delayTo_0 5 rfl rfl)
theorem dX0_delayTo_6 : decode cX0_delayTo 6 = .ok (.iload_n 3, 1) := dk_29 (dk_at dksX0_delayTo_0 6 rfl rfl)
theorem dX0_delayTo_7 : decode cX0_delayTo 7 = .ok (.invokevirtual 43, 3) := dk_182 0 43 (dk_at dksX0_delayTo_0 7 rfl rfl)
theorem dX0_delayTo_10 : decode cX0_delayTo 10 = .ok (.i2l, 1) := dk_133 (dk_at dksX0_delayTo_0 10 rfl rfl)
theorem dX0_delayTo_11 : decode cX0_delayTo 11 = .ok (.lastore, 1) := dk_80 (dk_at dksX0_delayTo_0 11 rfl rfl)
theorem dX0_delayTo_12 : decode cX0_delayTo 12 = .ok (.goto 15, 3) := dk_167 0 15 (dk_at dksX0_delayTo_0 12 rfl rfl)
theorem dX0_delayTo_15 : decode cX0_delayTo 15 = .ok (.astore 5, 2) := dk_58 5 (dk_at dksX0_delayTo_0 15 rfl rfl)
theorem dX0_delayTo_17 : decode cX0_delayTo 17 = .ok (.iconst 1, 1) := dk_4 (dk_at dksX0_delayTo_0 17 rfl rfl)
theorem dX0_delayTo_18 : decode cX0_delayTo 18 = .ok (.ireturn, 1) := dk_172 (dk_at dksX0_delayTo_0 18 rfl rfl)
theorem dX0_delayTo_19 : decode cX0_delayTo 19 = .ok (.astore 5, 2) := dk_58 5 (dk_at dksX0_delayTo_0 19 rfl rfl)
theorem dX0_delayTo_21 : decode cX0_delayTo 21 = .ok (.iconst 2, 1) := dk_5 (dk_at dksX0_delayTo_0 21 rfl rfl)
theorem dX0_delayTo_22 : decode cX0_delayTo 22 = .ok (.ireturn, 1) := dk_172 (dk_at dksX0_delayTo_0 22 rfl rfl)
theorem dX0_delayTo_23 : decode cX0_delayTo 23 = .ok (.astore 5, 2) := dk_58 5 (dk_at dksX0_delayTo_1 0 rfl rfl)
theorem dX0_delayTo_25 : decode cX0_delayTo 25 = .ok (.iconst 3, 1) := dk_6 (dk_at dksX0_delayTo_1 2 rfl rfl)
theorem dX0_delayTo_26 : decode cX0_delayTo 26 = .ok (.ireturn, 1) := dk_172 (dk_at dksX0_delayTo_1 3 rfl rfl)
theorem dX0_delayTo_27 : decode cX0_delayTo 27 = .ok (.iconst 0, 1) := dk_3 (dk_at dksX0_delayTo_1 4 rfl rfl)
theorem dX0_delayTo_28 : decode cX0_delayTo 28 = .ok (.ireturn, 1) := dk_172 (dk_at dksX0_delayTo_1 5 rfl rfl)
abbrev cX0_spread : ByteArray := method_12_code
def yX0_spread : MethodName := ⟨RX0, "spread", "(LAcousticCamera;I[J)I"⟩
def dkwX0_spread_0 : List UInt8 := [44, 3, 42, 27, 182, 0, 46, 133, 80, 167, 0, 9, 78, 4, 172, 78, 5, 172, 3, 172]
abbrev dktX0_spread_0 : List UInt8 := dkwX0_spread_0 ++ []
theorem dksX0_spread_0 : cX0_spread.data.toList.drop 0 = dktX0_spread_0 := by decide +kernel
theorem dX0_spread_0 : decode cX0_spread 0 = .ok (.aload_n 2, 1) := dk_44 (dk_at dksX0_spread_0 0 rfl rfl)
theorem dX0_spread_1 : decode cX0_spread 1 = .ok (.iconst 0, 1) := dk_3 (dk_at dksX0_spread_0 1 rfl rfl)
theorem dX0_spread_2 : decode cX0_spread 2 = .ok (.aload_n 0, 1) := dk_42 (dk_at dksX0_spread_0 2 rfl rfl)
theorem dX0_spread_3 : decode cX0_spread 3 = .ok (.iload_n 1, 1) := dk_27 (dk_at dksX0_spread_0 3 rfl rfl)
theorem dX0_spread_4 : decode cX0_spread 4 = .ok (.invokevirtual 46, 3) := dk_182 0 46 (dk_at dksX0_spread_0 4 rfl rfl)
theorem dX0_spread_7 : decode cX0_spread 7 = .ok (.i2l, 1) := dk_133 (dk_at dksX0_spread_0 7 rfl rfl)
theorem dX0_spread_8 : decode cX0_spread 8 = .ok (.lastore, 1) := dk_80 (dk_at dksX0_spread_0 8 rfl rfl)
theorem dX0_spread_9 : decode cX0_spread 9 = .ok (.goto 9, 3) := dk_167 0 9 (dk_at dksX0_spread_0 9 rfl rfl)
theorem dX0_spread_12 : decode cX0_spread 12 = .ok (.astore_n 3, 1) := dk_78 (dk_at dksX0_spread_0 12 rfl rfl)
theorem dX0_spread_13 : decode cX0_spread 13 = .ok (.iconst 1, 1) := dk_4 (dk_at dksX0_spread_0 13 rfl rfl)
theorem dX0_spread_14 : decode cX0_spread 14 = .ok (.ireturn, 1) := dk_172 (dk_at dksX0_spread_0 14 rfl rfl)
theorem dX0_spread_15 : decode cX0_spread 15 = .ok (.astore_n 3, 1) := dk_78 (dk_at dksX0_spread_0 15 rfl rfl)
theorem dX0_spread_16 : decode cX0_spread 16 = .ok (.iconst 2, 1) := dk_5 (dk_at dksX0_spread_0 16 rfl rfl)
theorem dX0_spread_17 : decode cX0_spread 17 = .ok (.ireturn, 1) := dk_172 (dk_at dksX0_spread_0 17 rfl rfl)
theorem dX0_spread_18 : decode cX0_spread 18 = .ok (.iconst 0, 1) := dk_3 (dk_at dksX0_spread_0 18 rfl rfl)
theorem dX0_spread_19 : decode cX0_spread 19 = .ok (.ireturn, 1) := dk_172 (dk_at dksX0_spread_0 19 rfl rfl)
abbrev cX0_window : ByteArray := method_13_code
def yX0_window : MethodName := ⟨RX0, "window", "(LAcousticCamera;I[J)I"⟩
def dkwX0_window_0 : List UInt8 := [44, 3, 42, 27, 182, 0, 49, 133, 80, 167, 0, 9, 78, 4, 172, 78, 5, 172, 3, 172]
abbrev dktX0_window_0 : List UInt8 := dkwX0_window_0 ++ []
theorem dksX0_window_0 : cX0_window.data.toList.drop 0 = dktX0_window_0 := by decide +kernel
theorem dX0_window_0 : decode cX0_window 0 = .ok (.aload_n 2, 1) := dk_44 (dk_at dksX0_window_0 0 rfl rfl)
theorem dX0_window_1 : decode cX0_window 1 = .ok (.iconst 0, 1) := dk_3 (dk_at dksX0_window_0 1 rfl rfl)
theorem dX0_window_2 : decode cX0_window 2 = .ok (.aload_n 0, 1) := dk_42 (dk_at dksX0_window_0 2 rfl rfl)
theorem dX0_window_3 : decode cX0_window 3 = .ok (.iload_n 1, 1) := dk_27 (dk_at dksX0_window_0 3 rfl rfl)
theorem dX0_window_4 : decode cX0_window 4 = .ok (.invokevirtual 49, 3) := dk_182 0 49 (dk_at dksX0_window_0 4 rfl rfl)
theorem dX0_window_7 : decode cX0_window 7 = .ok (.i2l, 1) := dk_133 (dk_at dksX0_window_0 7 rfl rfl)
theorem dX0_window_8 : decode cX0_window 8 = .ok (.lastore, 1) := dk_80 (dk_at dksX0_window_0 8 rfl rfl)
theorem dX0_window_9 : decode cX0_window 9 = .ok (.goto 9, 3) := dk_167 0 9 (dk_at dksX0_window_0 9 rfl rfl)
theorem dX0_window_12 : decode cX0_window 12 = .ok (.astore_n 3, 1) := dk_78 (dk_at dksX0_window_0 12 rfl rfl)
theorem dX0_window_13 : decode cX0_window 13 = .ok (.iconst 1, 1) := dk_4 (dk_at dksX0_window_0 13 rfl rfl)
theorem dX0_window_14 : decode cX0_window 14 = .ok (.ireturn, 1) := dk_172 (dk_at dksX0_window_0 14 rfl rfl)
theorem dX0_window_15 : decode cX0_window 15 = .ok (.astore_n 3, 1) := dk_78 (dk_at dksX0_window_0 15 rfl rfl)
theorem dX0_window_16 : decode cX0_window 16 = .ok (.iconst 2, 1) := dk_5 (dk_at dksX0_window_0 16 rfl rfl)
theorem dX0_window_17 : decode cX0_window 17 = .ok (.ireturn, 1) := dk_172 (dk_at dksX0_window_0 17 rfl rfl)
theorem dX0_window_18 : decode cX0_window 18 = .ok (.iconst 0, 1) := dk_3 (dk_at dksX0_window_0 18 rfl rfl)
theorem dX0_window_19 : decode cX0_window 19 = .ok (.ireturn, 1) := dk_172 (dk_at dksX0_window_0 19 rfl rfl)
abbrev cX0_sample : ByteArray := method_14_code
def yX0_sample : MethodName := ⟨RX0, "sample", "(LAcousticCamera;II[J)I"⟩
def dkwX0_sample_1 : List UInt8 := [172, 3, 172]
abbrev dktX0_sample_1 : List UInt8 := dkwX0_sample_1 ++ []
def dkwX0_sample_0 : List UInt8 := [45, 3, 42, 27, 28, 182, 0, 52, 133, 80, 167, 0, 15, 58, 4, 4, 172, 58, 4, 5, 172, 58, 4, 6]
abbrev dktX0_sample_0 : List UInt8 := dkwX0_sample_0 ++ dktX0_sample_1
theorem dksX0_sample_0 : cX0_sample.data.toList.drop 0 = dktX0_sample_0 := by decide +kernel
theorem dksX0_sample_1 : cX0_sample.data.toList.drop 24 = dktX0_sample_1 := dk_seg dksX0_sample_0 24 rfl rfl
theorem dX0_sample_0 : decode cX0_sample 0 = .ok (.aload_n 3, 1) := dk_45 (dk_at dksX0_sample_0 0 rfl rfl)
theorem dX0_sample_1 : decode cX0_sample 1 = .ok (.iconst 0, 1) := dk_3 (dk_at dksX0_sample_0 1 rfl rfl)
theorem dX0_sample_2 : decode cX0_sample 2 = .ok (.aload_n 0, 1) := dk_42 (dk_at dksX0_sample_0 2 rfl rfl)
theorem dX0_sample_3 : decode cX0_sample 3 = .ok (.iload_n 1, 1) := dk_27 (dk_at dksX0_sample_0 3 rfl rfl)
theorem dX0_sample_4 : decode cX0_sample 4 = .ok (.iload_n 2, 1) := dk_28 (dk_at dksX0_sample_0 4 rfl rfl)
theorem dX0_sample_5 : decode cX0_sample 5 = .ok (.invokevirtual 52, 3) := dk_182 0 52 (dk_at dksX0_sample_0 5 rfl rfl)
theorem dX0_sample_8 : decode cX0_sample 8 = .ok (.i2l, 1) := dk_133 (dk_at dksX0_sample_0 8 rfl rfl)
theorem dX0_sample_9 : decode cX0_sample 9 = .ok (.lastore, 1) := dk_80 (dk_at dksX0_sample_0 9 rfl rfl)
theorem dX0_sample_10 : decode cX0_sample 10 = .ok (.goto 15, 3) := dk_167 0 15 (dk_at dksX0_sample_0 10 rfl rfl)
theorem dX0_sample_13 : decode cX0_sample 13 = .ok (.astore 4, 2) := dk_58 4 (dk_at dksX0_sample_0 13 rfl rfl)
theorem dX0_sample_15 : decode cX0_sample 15 = .ok (.iconst 1, 1) := dk_4 (dk_at dksX0_sample_0 15 rfl rfl)
theorem dX0_sample_16 : decode cX0_sample 16 = .ok (.ireturn, 1) := dk_172 (dk_at dksX0_sample_0 16 rfl rfl)
theorem dX0_sample_17 : decode cX0_sample 17 = .ok (.astore 4, 2) := dk_58 4 (dk_at dksX0_sample_0 17 rfl rfl)
theorem dX0_sample_19 : decode cX0_sample 19 = .ok (.iconst 2, 1) := dk_5 (dk_at dksX0_sample_0 19 rfl rfl)
theorem dX0_sample_20 : decode cX0_sample 20 = .ok (.ireturn, 1) := dk_172 (dk_at dksX0_sample_0 20 rfl rfl)
theorem dX0_sample_21 : decode cX0_sample 21 = .ok (.astore 4, 2) := dk_58 4 (dk_at dksX0_sample_0 21 rfl rfl)
theorem dX0_sample_23 : decode cX0_sample 23 = .ok (.iconst 3, 1) := dk_6 (dk_at dksX0_sample_0 23 rfl rfl)
theorem dX0_sample_24 : decode cX0_sample 24 = .ok (.ireturn, 1) := dk_172 (dk_at dksX0_sample_1 0 rfl rfl)
theorem dX0_sample_25 : decode cX0_sample 25 = .ok (.iconst 0, 1) := dk_3 (dk_at dksX0_sample_1 1 rfl rfl)
theorem dX0_sample_26 : decode cX0_sample 26 = .ok (.ireturn, 1) := dk_172 (dk_at dksX0_sample_1 2 rfl rfl)
abbrev cX0_beam : ByteArray := method_15_code
def yX0_beam : MethodName := ⟨RX0, "beam", "(LAcousticCamera;II[J)I"⟩
def dkwX0_beam_1 : List UInt8 := [172, 3, 172]
abbrev dktX0_beam_1 : List UInt8 := dkwX0_beam_1 ++ []
def dkwX0_beam_0 : List UInt8 := [45, 3, 42, 27, 28, 182, 0, 55, 133, 80, 167, 0, 15, 58, 4, 4, 172, 58, 4, 5, 172, 58, 4, 6]
abbrev dktX0_beam_0 : List UInt8 := dkwX0_beam_0 ++ dktX0_beam_1
theorem dksX0_beam_0 : cX0_beam.data.toList.drop 0 = dktX0_beam_0 := by decide +kernel
theorem dksX0_beam_1 : cX0_beam.data.toList.drop 24 = dktX0_beam_1 := dk_seg dksX0_beam_0 24 rfl rfl
theorem dX0_beam_0 : decode cX0_beam 0 = .ok (.aload_n 3, 1) := dk_45 (dk_at dksX0_beam_0 0 rfl rfl)
theorem dX0_beam_1 : decode cX0_beam 1 = .ok (.iconst 0, 1) := dk_3 (dk_at dksX0_beam_0 1 rfl rfl)
theorem dX0_beam_2 : decode cX0_beam 2 = .ok (.aload_n 0, 1) := dk_42 (dk_at dksX0_beam_0 2 rfl rfl)
theorem dX0_beam_3 : decode cX0_beam 3 = .ok (.iload_n 1, 1) := dk_27 (dk_at dksX0_beam_0 3 rfl rfl)
theorem dX0_beam_4 : decode cX0_beam 4 = .ok (.iload_n 2, 1) := dk_28 (dk_at dksX0_beam_0 4 rfl rfl)
theorem dX0_beam_5 : decode cX0_beam 5 = .ok (.invokevirtual 55, 3) := dk_182 0 55 (dk_at dksX0_beam_0 5 rfl rfl)
theorem dX0_beam_8 : decode cX0_beam 8 = .ok (.i2l, 1) := dk_133 (dk_at dksX0_beam_0 8 rfl rfl)
theorem dX0_beam_9 : decode cX0_beam 9 = .ok (.lastore, 1) := dk_80 (dk_at dksX0_beam_0 9 rfl rfl)
theorem dX0_beam_10 : decode cX0_beam 10 = .ok (.goto 15, 3) := dk_167 0 15 (dk_at dksX0_beam_0 10 rfl rfl)
theorem dX0_beam_13 : decode cX0_beam 13 = .ok (.astore 4, 2) := dk_58 4 (dk_at dksX0_beam_0 13 rfl rfl)
theorem dX0_beam_15 : decode cX0_beam 15 = .ok (.iconst 1, 1) := dk_4 (dk_at dksX0_beam_0 15 rfl rfl)
theorem dX0_beam_16 : decode cX0_beam 16 = .ok (.ireturn, 1) := dk_172 (dk_at dksX0_beam_0 16 rfl rfl)
theorem dX0_beam_17 : decode cX0_beam 17 = .ok (.astore 4, 2) := dk_58 4 (dk_at dksX0_beam_0 17 rfl rfl)
theorem dX0_beam_19 : decode cX0_beam 19 = .ok (.iconst 2, 1) := dk_5 (dk_at dksX0_beam_0 19 rfl rfl)
theorem dX0_beam_20 : decode cX0_beam 20 = .ok (.ireturn, 1) := dk_172 (dk_at dksX0_beam_0 20 rfl rfl)
theorem dX0_beam_21 : decode cX0_beam 21 = .ok (.astore 4, 2) := dk_58 4 (dk_at dksX0_beam_0 21 rfl rfl)
theorem dX0_beam_23 : decode cX0_beam 23 = .ok (.iconst 3, 1) := dk_6 (dk_at dksX0_beam_0 23 rfl rfl)
theorem dX0_beam_24 : decode cX0_beam 24 = .ok (.ireturn, 1) := dk_172 (dk_at dksX0_beam_1 0 rfl rfl)
theorem dX0_beam_25 : decode cX0_beam 25 = .ok (.iconst 0, 1) := dk_3 (dk_at dksX0_beam_1 1 rfl rfl)
theorem dX0_beam_26 : decode cX0_beam 26 = .ok (.ireturn, 1) := dk_172 (dk_at dksX0_beam_1 2 rfl rfl)
abbrev cX0_power : ByteArray := method_16_code
def yX0_power : MethodName := ⟨RX0, "power", "(LAcousticCamera;I[J)I"⟩
def dkwX0_power_0 : List UInt8 := [44, 3, 42, 27, 182, 0, 58, 80, 167, 0, 9, 78, 4, 172, 78, 5, 172, 3, 172]
abbrev dktX0_power_0 : List UInt8 := dkwX0_power_0 ++ []
theorem dksX0_power_0 : cX0_power.data.toList.drop 0 = dktX0_power_0 := by decide +kernel
theorem dX0_power_0 : decode cX0_power 0 = .ok (.aload_n 2, 1) := dk_44 (dk_at dksX0_power_0 0 rfl rfl)
theorem dX0_power_1 : decode cX0_power 1 = .ok (.iconst 0, 1) := dk_3 (dk_at dksX0_power_0 1 rfl rfl)
theorem dX0_power_2 : decode cX0_power 2 = .ok (.aload_n 0, 1) := dk_42 (dk_at dksX0_power_0 2 rfl rfl)
theorem dX0_power_3 : decode cX0_power 3 = .ok (.iload_n 1, 1) := dk_27 (dk_at dksX0_power_0 3 rfl rfl)
theorem dX0_power_4 : decode cX0_power 4 = .ok (.invokevirtual 58, 3) := dk_182 0 58 (dk_at dksX0_power_0 4 rfl rfl)
theorem dX0_power_7 : decode cX0_power 7 = .ok (.lastore, 1) := dk_80 (dk_at dksX0_power_0 7 rfl rfl)
theorem dX0_power_8 : decode cX0_power 8 = .ok (.goto 9, 3) := dk_167 0 9 (dk_at dksX0_power_0 8 rfl rfl)
theorem dX0_power_11 : decode cX0_power 11 = .ok (.astore_n 3, 1) := dk_78 (dk_at dksX0_power_0 11 rfl rfl)
theorem dX0_power_12 : decode cX0_power 12 = .ok (.iconst 1, 1) := dk_4 (dk_at dksX0_power_0 12 rfl rfl)
theorem dX0_power_13 : decode cX0_power 13 = .ok (.ireturn, 1) := dk_172 (dk_at dksX0_power_0 13 rfl rfl)
theorem dX0_power_14 : decode cX0_power 14 = .ok (.astore_n 3, 1) := dk_78 (dk_at dksX0_power_0 14 rfl rfl)
theorem dX0_power_15 : decode cX0_power 15 = .ok (.iconst 2, 1) := dk_5 (dk_at dksX0_power_0 15 rfl rfl)
theorem dX0_power_16 : decode cX0_power 16 = .ok (.ireturn, 1) := dk_172 (dk_at dksX0_power_0 16 rfl rfl)
theorem dX0_power_17 : decode cX0_power 17 = .ok (.iconst 0, 1) := dk_3 (dk_at dksX0_power_0 17 rfl rfl)
theorem dX0_power_18 : decode cX0_power 18 = .ok (.ireturn, 1) := dk_172 (dk_at dksX0_power_0 18 rfl rfl)
abbrev cX0_powerAt : ByteArray := method_17_code
def yX0_powerAt : MethodName := ⟨RX0, "powerAt", "(LAcousticCamera;II[J)I"⟩
def dkwX0_powerAt_0 : List UInt8 := [45, 3, 42, 27, 28, 182, 0, 62, 80, 167, 0, 11, 58, 4, 4, 172, 58, 4, 5, 172, 3, 172]
abbrev dktX0_powerAt_0 : List UInt8 := dkwX0_powerAt_0 ++ []
theorem dksX0_powerAt_0 : cX0_powerAt.data.toList.drop 0 = dktX0_powerAt_0 := by decide +kernel
theorem dX0_powerAt_0 : decode cX0_powerAt 0 = .ok (.aload_n 3, 1) := dk_45 (dk_at dksX0_powerAt_0 0 rfl rfl)
theorem dX0_powerAt_1 : decode cX0_powerAt 1 = .ok (.iconst 0, 1) := dk_3 (dk_at dksX0_powerAt_0 1 rfl rfl)
theorem dX0_powerAt_2 : decode cX0_powerAt 2 = .ok (.aload_n 0, 1) := dk_42 (dk_at dksX0_powerAt_0 2 rfl rfl)
theorem dX0_powerAt_3 : decode cX0_powerAt 3 = .ok (.iload_n 1, 1) := dk_27 (dk_at dksX0_powerAt_0 3 rfl rfl)
theorem dX0_powerAt_4 : decode cX0_powerAt 4 = .ok (.iload_n 2, 1) := dk_28 (dk_at dksX0_powerAt_0 4 rfl rfl)
theorem dX0_powerAt_5 : decode cX0_powerAt 5 = .ok (.invokevirtual 62, 3) := dk_182 0 62 (dk_at dksX0_powerAt_0 5 rfl rfl)
theorem dX0_powerAt_8 : decode cX0_powerAt 8 = .ok (.lastore, 1) := dk_80 (dk_at dksX0_powerAt_0 8 rfl rfl)
theorem dX0_powerAt_9 : decode cX0_powerAt 9 = .ok (.goto 11, 3) := dk_167 0 11 (dk_at dksX0_powerAt_0 9 rfl rfl)
theorem dX0_powerAt_12 : decode cX0_powerAt 12 = .ok (.astore 4, 2) := dk_58 4 (dk_at dksX0_powerAt_0 12 rfl rfl)
theorem dX0_powerAt_14 : decode cX0_powerAt 14 = .ok (.iconst 1, 1) := dk_4 (dk_at dksX0_powerAt_0 14 rfl rfl)
theorem dX0_powerAt_15 : decode cX0_powerAt 15 = .ok (.ireturn, 1) := dk_172 (dk_at dksX0_powerAt_0 15 rfl rfl)
theorem dX0_powerAt_16 : decode cX0_powerAt 16 = .ok (.astore 4, 2) := dk_58 4 (dk_at dksX0_powerAt_0 16 rfl rfl)
theorem dX0_powerAt_18 : decode cX0_powerAt 18 = .ok (.iconst 2, 1) := dk_5 (dk_at dksX0_powerAt_0 18 rfl rfl)
theorem dX0_powerAt_19 : decode cX0_powerAt 19 = .ok (.ireturn, 1) := dk_172 (dk_at dksX0_powerAt_0 19 rfl rfl)
theorem dX0_powerAt_20 : decode cX0_powerAt 20 = .ok (.iconst 0, 1) := dk_3 (dk_at dksX0_powerAt_0 20 rfl rfl)
theorem dX0_powerAt_21 : decode cX0_powerAt 21 = .ok (.ireturn, 1) := dk_172 (dk_at dksX0_powerAt_0 21 rfl rfl)
abbrev cX0_best : ByteArray := method_18_code
def yX0_best : MethodName := ⟨RX0, "best", "(LAcousticCamera;[J)I"⟩
def dkwX0_best_0 : List UInt8 := [43, 3, 42, 182, 0, 66, 133, 80, 167, 0, 6, 77, 4, 172, 3, 172]
abbrev dktX0_best_0 : List UInt8 := dkwX0_best_0 ++ []
theorem dksX0_best_0 : cX0_best.data.toList.drop 0 = dktX0_best_0 := by decide +kernel
theorem dX0_best_0 : decode cX0_best 0 = .ok (.aload_n 1, 1) := dk_43 (dk_at dksX0_best_0 0 rfl rfl)
theorem dX0_best_1 : decode cX0_best 1 = .ok (.iconst 0, 1) := dk_3 (dk_at dksX0_best_0 1 rfl rfl)
theorem dX0_best_2 : decode cX0_best 2 = .ok (.aload_n 0, 1) := dk_42 (dk_at dksX0_best_0 2 rfl rfl)
theorem dX0_best_3 : decode cX0_best 3 = .ok (.invokevirtual 66, 3) := dk_182 0 66 (dk_at dksX0_best_0 3 rfl rfl)
theorem dX0_best_6 : decode cX0_best 6 = .ok (.i2l, 1) := dk_133 (dk_at dksX0_best_0 6 rfl rfl)
theorem dX0_best_7 : decode cX0_best 7 = .ok (.lastore, 1) := dk_80 (dk_at dksX0_best_0 7 rfl rfl)
theorem dX0_best_8 : decode cX0_best 8 = .ok (.goto 6, 3) := dk_167 0 6 (dk_at dksX0_best_0 8 rfl rfl)
theorem dX0_best_11 : decode cX0_best 11 = .ok (.astore_n 2, 1) := dk_77 (dk_at dksX0_best_0 11 rfl rfl)
theorem dX0_best_12 : decode cX0_best 12 = .ok (.iconst 1, 1) := dk_4 (dk_at dksX0_best_0 12 rfl rfl)
theorem dX0_best_13 : decode cX0_best 13 = .ok (.ireturn, 1) := dk_172 (dk_at dksX0_best_0 13 rfl rfl)
theorem dX0_best_14 : decode cX0_best 14 = .ok (.iconst 0, 1) := dk_3 (dk_at dksX0_best_0 14 rfl rfl)
theorem dX0_best_15 : decode cX0_best 15 = .ok (.ireturn, 1) := dk_172 (dk_at dksX0_best_0 15 rfl rfl)
abbrev cX0_bestPower : ByteArray := method_19_code
def yX0_bestPower : MethodName := ⟨RX0, "bestPower", "(LAcousticCamera;[J)I"⟩
def dkwX0_bestPower_0 : List UInt8 := [43, 3, 42, 182, 0, 70, 80, 167, 0, 6, 77, 4, 172, 3, 172]
abbrev dktX0_bestPower_0 : List UInt8 := dkwX0_bestPower_0 ++ []
theorem dksX0_bestPower_0 : cX0_bestPower.data.toList.drop 0 = dktX0_bestPower_0 := by decide +kernel
theorem dX0_bestPower_0 : decode cX0_bestPower 0 = .ok (.aload_n 1, 1) := dk_43 (dk_at dksX0_bestPower_0 0 rfl rfl)
theorem dX0_bestPower_1 : decode cX0_bestPower 1 = .ok (.iconst 0, 1) := dk_3 (dk_at dksX0_bestPower_0 1 rfl rfl)
theorem dX0_bestPower_2 : decode cX0_bestPower 2 = .ok (.aload_n 0, 1) := dk_42 (dk_at dksX0_bestPower_0 2 rfl rfl)
theorem dX0_bestPower_3 : decode cX0_bestPower 3 = .ok (.invokevirtual 70, 3) := dk_182 0 70 (dk_at dksX0_bestPower_0 3 rfl rfl)
theorem dX0_bestPower_6 : decode cX0_bestPower 6 = .ok (.lastore, 1) := dk_80 (dk_at dksX0_bestPower_0 6 rfl rfl)
theorem dX0_bestPower_7 : decode cX0_bestPower 7 = .ok (.goto 6, 3) := dk_167 0 6 (dk_at dksX0_bestPower_0 7 rfl rfl)
theorem dX0_bestPower_10 : decode cX0_bestPower 10 = .ok (.astore_n 2, 1) := dk_77 (dk_at dksX0_bestPower_0 10 rfl rfl)
theorem dX0_bestPower_11 : decode cX0_bestPower 11 = .ok (.iconst 1, 1) := dk_4 (dk_at dksX0_bestPower_0 11 rfl rfl)
theorem dX0_bestPower_12 : decode cX0_bestPower 12 = .ok (.ireturn, 1) := dk_172 (dk_at dksX0_bestPower_0 12 rfl rfl)
theorem dX0_bestPower_13 : decode cX0_bestPower 13 = .ok (.iconst 0, 1) := dk_3 (dk_at dksX0_bestPower_0 13 rfl rfl)
theorem dX0_bestPower_14 : decode cX0_bestPower 14 = .ok (.ireturn, 1) := dk_172 (dk_at dksX0_bestPower_0 14 rfl rfl)
abbrev cX0_meanPower : ByteArray := method_20_code
def yX0_meanPower : MethodName := ⟨RX0, "meanPower", "(LAcousticCamera;[J)I"⟩
def dkwX0_meanPower_0 : List UInt8 := [43, 3, 42, 182, 0, 74, 80, 167, 0, 6, 77, 4, 172, 3, 172]
abbrev dktX0_meanPower_0 : List UInt8 := dkwX0_meanPower_0 ++ []
theorem dksX0_meanPower_0 : cX0_meanPower.data.toList.drop 0 = dktX0_meanPower_0 := by decide +kernel
theorem dX0_meanPower_0 : decode cX0_meanPower 0 = .ok (.aload_n 1, 1) := dk_43 (dk_at dksX0_meanPower_0 0 rfl rfl)
theorem dX0_meanPower_1 : decode cX0_meanPower 1 = .ok (.iconst 0, 1) := dk_3 (dk_at dksX0_meanPower_0 1 rfl rfl)
theorem dX0_meanPower_2 : decode cX0_meanPower 2 = .ok (.aload_n 0, 1) := dk_42 (dk_at dksX0_meanPower_0 2 rfl rfl)
theorem dX0_meanPower_3 : decode cX0_meanPower 3 = .ok (.invokevirtual 74, 3) := dk_182 0 74 (dk_at dksX0_meanPower_0 3 rfl rfl)
theorem dX0_meanPower_6 : decode cX0_meanPower 6 = .ok (.lastore, 1) := dk_80 (dk_at dksX0_meanPower_0 6 rfl rfl)
theorem dX0_meanPower_7 : decode cX0_meanPower 7 = .ok (.goto 6, 3) := dk_167 0 6 (dk_at dksX0_meanPower_0 7 rfl rfl)
theorem dX0_meanPower_10 : decode cX0_meanPower 10 = .ok (.astore_n 2, 1) := dk_77 (dk_at dksX0_meanPower_0 10 rfl rfl)
theorem dX0_meanPower_11 : decode cX0_meanPower 11 = .ok (.iconst 1, 1) := dk_4 (dk_at dksX0_meanPower_0 11 rfl rfl)
theorem dX0_meanPower_12 : decode cX0_meanPower 12 = .ok (.ireturn, 1) := dk_172 (dk_at dksX0_meanPower_0 12 rfl rfl)
theorem dX0_meanPower_13 : decode cX0_meanPower 13 = .ok (.iconst 0, 1) := dk_3 (dk_at dksX0_meanPower_0 13 rfl rfl)
theorem dX0_meanPower_14 : decode cX0_meanPower 14 = .ok (.ireturn, 1) := dk_172 (dk_at dksX0_meanPower_0 14 rfl rfl)
abbrev cX0_peaks : ByteArray := method_21_code
def yX0_peaks : MethodName := ⟨RX0, "peaks", "(LAcousticCamera;[J)I"⟩
def dkwX0_peaks_0 : List UInt8 := [43, 3, 42, 182, 0, 77, 133, 80, 167, 0, 6, 77, 4, 172, 3, 172]
abbrev dktX0_peaks_0 : List UInt8 := dkwX0_peaks_0 ++ []
theorem dksX0_peaks_0 : cX0_peaks.data.toList.drop 0 = dktX0_peaks_0 := by decide +kernel
theorem dX0_peaks_0 : decode cX0_peaks 0 = .ok (.aload_n 1, 1) := dk_43 (dk_at dksX0_peaks_0 0 rfl rfl)
theorem dX0_peaks_1 : decode cX0_peaks 1 = .ok (.iconst 0, 1) := dk_3 (dk_at dksX0_peaks_0 1 rfl rfl)
theorem dX0_peaks_2 : decode cX0_peaks 2 = .ok (.aload_n 0, 1) := dk_42 (dk_at dksX0_peaks_0 2 rfl rfl)
theorem dX0_peaks_3 : decode cX0_peaks 3 = .ok (.invokevirtual 77, 3) := dk_182 0 77 (dk_at dksX0_peaks_0 3 rfl rfl)
theorem dX0_peaks_6 : decode cX0_peaks 6 = .ok (.i2l, 1) := dk_133 (dk_at dksX0_peaks_0 6 rfl rfl)
theorem dX0_peaks_7 : decode cX0_peaks 7 = .ok (.lastore, 1) := dk_80 (dk_at dksX0_peaks_0 7 rfl rfl)
theorem dX0_peaks_8 : decode cX0_peaks 8 = .ok (.goto 6, 3) := dk_167 0 6 (dk_at dksX0_peaks_0 8 rfl rfl)
theorem dX0_peaks_11 : decode cX0_peaks 11 = .ok (.astore_n 2, 1) := dk_77 (dk_at dksX0_peaks_0 11 rfl rfl)
theorem dX0_peaks_12 : decode cX0_peaks 12 = .ok (.iconst 1, 1) := dk_4 (dk_at dksX0_peaks_0 12 rfl rfl)
theorem dX0_peaks_13 : decode cX0_peaks 13 = .ok (.ireturn, 1) := dk_172 (dk_at dksX0_peaks_0 13 rfl rfl)
theorem dX0_peaks_14 : decode cX0_peaks 14 = .ok (.iconst 0, 1) := dk_3 (dk_at dksX0_peaks_0 14 rfl rfl)
theorem dX0_peaks_15 : decode cX0_peaks 15 = .ok (.ireturn, 1) := dk_172 (dk_at dksX0_peaks_0 15 rfl rfl)
abbrev cX0_peakAt : ByteArray := method_22_code
def yX0_peakAt : MethodName := ⟨RX0, "peakAt", "(LAcousticCamera;I[J)I"⟩
def dkwX0_peakAt_0 : List UInt8 := [44, 3, 42, 27, 182, 0, 80, 133, 80, 167, 0, 9, 78, 4, 172, 78, 5, 172, 3, 172]
abbrev dktX0_peakAt_0 : List UInt8 := dkwX0_peakAt_0 ++ []
theorem dksX0_peakAt_0 : cX0_peakAt.data.toList.drop 0 = dktX0_peakAt_0 := by decide +kernel
theorem dX0_peakAt_0 : decode cX0_peakAt 0 = .ok (.aload_n 2, 1) := dk_44 (dk_at dksX0_peakAt_0 0 rfl rfl)
theorem dX0_peakAt_1 : decode cX0_peakAt 1 = .ok (.iconst 0, 1) := dk_3 (dk_at dksX0_peakAt_0 1 rfl rfl)
theorem dX0_peakAt_2 : decode cX0_peakAt 2 = .ok (.aload_n 0, 1) := dk_42 (dk_at dksX0_peakAt_0 2 rfl rfl)
theorem dX0_peakAt_3 : decode cX0_peakAt 3 = .ok (.iload_n 1, 1) := dk_27 (dk_at dksX0_peakAt_0 3 rfl rfl)
theorem dX0_peakAt_4 : decode cX0_peakAt 4 = .ok (.invokevirtual 80, 3) := dk_182 0 80 (dk_at dksX0_peakAt_0 4 rfl rfl)
theorem dX0_peakAt_7 : decode cX0_peakAt 7 = .ok (.i2l, 1) := dk_133 (dk_at dksX0_peakAt_0 7 rfl rfl)
theorem dX0_peakAt_8 : decode cX0_peakAt 8 = .ok (.lastore, 1) := dk_80 (dk_at dksX0_peakAt_0 8 rfl rfl)
theorem dX0_peakAt_9 : decode cX0_peakAt 9 = .ok (.goto 9, 3) := dk_167 0 9 (dk_at dksX0_peakAt_0 9 rfl rfl)
theorem dX0_peakAt_12 : decode cX0_peakAt 12 = .ok (.astore_n 3, 1) := dk_78 (dk_at dksX0_peakAt_0 12 rfl rfl)
theorem dX0_peakAt_13 : decode cX0_peakAt 13 = .ok (.iconst 1, 1) := dk_4 (dk_at dksX0_peakAt_0 13 rfl rfl)
theorem dX0_peakAt_14 : decode cX0_peakAt 14 = .ok (.ireturn, 1) := dk_172 (dk_at dksX0_peakAt_0 14 rfl rfl)
theorem dX0_peakAt_15 : decode cX0_peakAt 15 = .ok (.astore_n 3, 1) := dk_78 (dk_at dksX0_peakAt_0 15 rfl rfl)
theorem dX0_peakAt_16 : decode cX0_peakAt 16 = .ok (.iconst 2, 1) := dk_5 (dk_at dksX0_peakAt_0 16 rfl rfl)
theorem dX0_peakAt_17 : decode cX0_peakAt 17 = .ok (.ireturn, 1) := dk_172 (dk_at dksX0_peakAt_0 17 rfl rfl)
theorem dX0_peakAt_18 : decode cX0_peakAt 18 = .ok (.iconst 0, 1) := dk_3 (dk_at dksX0_peakAt_0 18 rfl rfl)
theorem dX0_peakAt_19 : decode cX0_peakAt 19 = .ok (.ireturn, 1) := dk_172 (dk_at dksX0_peakAt_0 19 rfl rfl)
abbrev cX0_isPeak : ByteArray := method_23_code
def yX0_isPeak : MethodName := ⟨RX0, "isPeak", "(LAcousticCamera;I[J)I"⟩
def dkwX0_isPeak_1 : List UInt8 := [172, 3, 172]
abbrev dktX0_isPeak_1 : List UInt8 := dkwX0_isPeak_1 ++ []
def dkwX0_isPeak_0 : List UInt8 := [44, 3, 42, 27, 182, 0, 83, 153, 0, 7, 10, 167, 0, 4, 9, 80, 167, 0, 9, 78, 4, 172, 78, 5]
abbrev dktX0_isPeak_0 : List UInt8 := dkwX0_isPeak_0 ++ dktX0_isPeak_1
theorem dksX0_isPeak_0 : cX0_isPeak.data.toList.drop 0 = dktX0_isPeak_0 := by decide +kernel
theorem dksX0_isPeak_1 : cX0_isPeak.data.toList.drop 24 = dktX0_isPeak_1 := dk_seg dksX0_isPeak_0 24 rfl rfl
theorem dX0_isPeak_0 : decode cX0_isPeak 0 = .ok (.aload_n 2, 1) := dk_44 (dk_at dksX0_isPeak_0 0 rfl rfl)
theorem dX0_isPeak_1 : decode cX0_isPeak 1 = .ok (.iconst 0, 1) := dk_3 (dk_at dksX0_isPeak_0 1 rfl rfl)
theorem dX0_isPeak_2 : decode cX0_isPeak 2 = .ok (.aload_n 0, 1) := dk_42 (dk_at dksX0_isPeak_0 2 rfl rfl)
theorem dX0_isPeak_3 : decode cX0_isPeak 3 = .ok (.iload_n 1, 1) := dk_27 (dk_at dksX0_isPeak_0 3 rfl rfl)
theorem dX0_isPeak_4 : decode cX0_isPeak 4 = .ok (.invokevirtual 83, 3) := dk_182 0 83 (dk_at dksX0_isPeak_0 4 rfl rfl)
theorem dX0_isPeak_7 : decode cX0_isPeak 7 = .ok (.ifCond .eq 7, 3) := dk_153 0 7 (dk_at dksX0_isPeak_0 7 rfl rfl)
theorem dX0_isPeak_10 : decode cX0_isPeak 10 = .ok (.lconst 1, 1) := dk_10 (dk_at dksX0_isPeak_0 10 rfl rfl)
theorem dX0_isPeak_11 : decode cX0_isPeak 11 = .ok (.goto 4, 3) := dk_167 0 4 (dk_at dksX0_isPeak_0 11 rfl rfl)
theorem dX0_isPeak_14 : decode cX0_isPeak 14 = .ok (.lconst 0, 1) := dk_9 (dk_at dksX0_isPeak_0 14 rfl rfl)
theorem dX0_isPeak_15 : decode cX0_isPeak 15 = .ok (.lastore, 1) := dk_80 (dk_at dksX0_isPeak_0 15 rfl rfl)
theorem dX0_isPeak_16 : decode cX0_isPeak 16 = .ok (.goto 9, 3) := dk_167 0 9 (dk_at dksX0_isPeak_0 16 rfl rfl)
theorem dX0_isPeak_19 : decode cX0_isPeak 19 = .ok (.astore_n 3, 1) := dk_78 (dk_at dksX0_isPeak_0 19 rfl rfl)
theorem dX0_isPeak_20 : decode cX0_isPeak 20 = .ok (.iconst 1, 1) := dk_4 (dk_at dksX0_isPeak_0 20 rfl rfl)
theorem dX0_isPeak_21 : decode cX0_isPeak 21 = .ok (.ireturn, 1) := dk_172 (dk_at dksX0_isPeak_0 21 rfl rfl)
theorem dX0_isPeak_22 : decode cX0_isPeak 22 = .ok (.astore_n 3, 1) := dk_78 (dk_at dksX0_isPeak_0 22 rfl rfl)
theorem dX0_isPeak_23 : decode cX0_isPeak 23 = .ok (.iconst 2, 1) := dk_5 (dk_at dksX0_isPeak_0 23 rfl rfl)
theorem dX0_isPeak_24 : decode cX0_isPeak 24 = .ok (.ireturn, 1) := dk_172 (dk_at dksX0_isPeak_1 0 rfl rfl)
theorem dX0_isPeak_25 : decode cX0_isPeak 25 = .ok (.iconst 0, 1) := dk_3 (dk_at dksX0_isPeak_1 1 rfl rfl)
theorem dX0_isPeak_26 : decode cX0_isPeak 26 = .ok (.ireturn, 1) := dk_172 (dk_at dksX0_isPeak_1 2 rfl rfl)
abbrev cX0_zonePower : ByteArray := method_24_code
def yX0_zonePower : MethodName := ⟨RX0, "zonePower", "(LAcousticCamera;I[J)I"⟩
def dkwX0_zonePower_0 : List UInt8 := [44, 3, 42, 27, 182, 0, 86, 80, 167, 0, 9, 78, 4, 172, 78, 5, 172, 3, 172]
abbrev dktX0_zonePower_0 : List UInt8 := dkwX0_zonePower_0 ++ []
theorem dksX0_zonePower_0 : cX0_zonePower.data.toList.drop 0 = dktX0_zonePower_0 := by decide +kernel
theorem dX0_zonePower_0 : decode cX0_zonePower 0 = .ok (.aload_n 2, 1) := dk_44 (dk_at dksX0_zonePower_0 0 rfl rfl)
theorem dX0_zonePower_1 : decode cX0_zonePower 1 = .ok (.iconst 0, 1) := dk_3 (dk_at dksX0_zonePower_0 1 rfl rfl)
theorem dX0_zonePower_2 : decode cX0_zonePower 2 = .ok (.aload_n 0, 1) := dk_42 (dk_at dksX0_zonePower_0 2 rfl rfl)
theorem dX0_zonePower_3 : decode cX0_zonePower 3 = .ok (.iload_n 1, 1) := dk_27 (dk_at dksX0_zonePower_0 3 rfl rfl)
theorem dX0_zonePower_4 : decode cX0_zonePower 4 = .ok (.invokevirtual 86, 3) := dk_182 0 86 (dk_at dksX0_zonePower_0 4 rfl rfl)
theorem dX0_zonePower_7 : decode cX0_zonePower 7 = .ok (.lastore, 1) := dk_80 (dk_at dksX0_zonePower_0 7 rfl rfl)
theorem dX0_zonePower_8 : decode cX0_zonePower 8 = .ok (.goto 9, 3) := dk_167 0 9 (dk_at dksX0_zonePower_0 8 rfl rfl)
theorem dX0_zonePower_11 : decode cX0_zonePower 11 = .ok (.astore_n 3, 1) := dk_78 (dk_at dksX0_zonePower_0 11 rfl rfl)
theorem dX0_zonePower_12 : decode cX0_zonePower 12 = .ok (.iconst 1, 1) := dk_4 (dk_at dksX0_zonePower_0 12 rfl rfl)
theorem dX0_zonePower_13 : decode cX0_zonePower 13 = .ok (.ireturn, 1) := dk_172 (dk_at dksX0_zonePower_0 13 rfl rfl)
theorem dX0_zonePower_14 : decode cX0_zonePower 14 = .ok (.astore_n 3, 1) := dk_78 (dk_at dksX0_zonePower_0 14 rfl rfl)
theorem dX0_zonePower_15 : decode cX0_zonePower 15 = .ok (.iconst 2, 1) := dk_5 (dk_at dksX0_zonePower_0 15 rfl rfl)
theorem dX0_zonePower_16 : decode cX0_zonePower 16 = .ok (.ireturn, 1) := dk_172 (dk_at dksX0_zonePower_0 16 rfl rfl)
theorem dX0_zonePower_17 : decode cX0_zonePower 17 = .ok (.iconst 0, 1) := dk_3 (dk_at dksX0_zonePower_0 17 rfl rfl)
theorem dX0_zonePower_18 : decode cX0_zonePower 18 = .ok (.ireturn, 1) := dk_172 (dk_at dksX0_zonePower_0 18 rfl rfl)
abbrev cX0_zoneBest : ByteArray := method_25_code
def yX0_zoneBest : MethodName := ⟨RX0, "zoneBest", "(LAcousticCamera;I[J)I"⟩
def dkwX0_zoneBest_0 : List UInt8 := [44, 3, 42, 27, 182, 0, 89, 133, 80, 167, 0, 9, 78, 4, 172, 78, 5, 172, 3, 172]
abbrev dktX0_zoneBest_0 : List UInt8 := dkwX0_zoneBest_0 ++ []
theorem dksX0_zoneBest_0 : cX0_zoneBest.data.toList.drop 0 = dktX0_zoneBest_0 := by decide +kernel
theorem dX0_zoneBest_0 : decode cX0_zoneBest 0 = .ok (.aload_n 2, 1) := dk_44 (dk_at dksX0_zoneBest_0 0 rfl rfl)
theorem dX0_zoneBest_1 : decode cX0_zoneBest 1 = .ok (.iconst 0, 1) := dk_3 (dk_at dksX0_zoneBest_0 1 rfl rfl)
theorem dX0_zoneBest_2 : decode cX0_zoneBest 2 = .ok (.aload_n 0, 1) := dk_42 (dk_at dksX0_zoneBest_0 2 rfl rfl)
theorem dX0_zoneBest_3 : decode cX0_zoneBest 3 = .ok (.iload_n 1, 1) := dk_27 (dk_at dksX0_zoneBest_0 3 rfl rfl)
theorem dX0_zoneBest_4 : decode cX0_zoneBest 4 = .ok (.invokevirtual 89, 3) := dk_182 0 89 (dk_at dksX0_zoneBest_0 4 rfl rfl)
theorem dX0_zoneBest_7 : decode cX0_zoneBest 7 = .ok (.i2l, 1) := dk_133 (dk_at dksX0_zoneBest_0 7 rfl rfl)
theorem dX0_zoneBest_8 : decode cX0_zoneBest 8 = .ok (.lastore, 1) := dk_80 (dk_at dksX0_zoneBest_0 8 rfl rfl)
theorem dX0_zoneBest_9 : decode cX0_zoneBest 9 = .ok (.goto 9, 3) := dk_167 0 9 (dk_at dksX0_zoneBest_0 9 rfl rfl)
theorem dX0_zoneBest_12 : decode cX0_zoneBest 12 = .ok (.astore_n 3, 1) := dk_78 (dk_at dksX0_zoneBest_0 12 rfl rfl)
theorem dX0_zoneBest_13 : decode cX0_zoneBest 13 = .ok (.iconst 1, 1) := dk_4 (dk_at dksX0_zoneBest_0 13 rfl rfl)
theorem dX0_zoneBest_14 : decode cX0_zoneBest 14 = .ok (.ireturn, 1) := dk_172 (dk_at dksX0_zoneBest_0 14 rfl rfl)
theorem dX0_zoneBest_15 : decode cX0_zoneBest 15 = .ok (.astore_n 3, 1) := dk_78 (dk_at dksX0_zoneBest_0 15 rfl rfl)
theorem dX0_zoneBest_16 : decode cX0_zoneBest 16 = .ok (.iconst 2, 1) := dk_5 (dk_at dksX0_zoneBest_0 16 rfl rfl)
theorem dX0_zoneBest_17 : decode cX0_zoneBest 17 = .ok (.ireturn, 1) := dk_172 (dk_at dksX0_zoneBest_0 17 rfl rfl)
theorem dX0_zoneBest_18 : decode cX0_zoneBest 18 = .ok (.iconst 0, 1) := dk_3 (dk_at dksX0_zoneBest_0 18 rfl rfl)
theorem dX0_zoneBest_19 : decode cX0_zoneBest 19 = .ok (.ireturn, 1) := dk_172 (dk_at dksX0_zoneBest_0 19 rfl rfl)
abbrev cX0_contrast : ByteArray := method_26_code
def yX0_contrast : MethodName := ⟨RX0, "contrast", "(LAcousticCamera;[D)I"⟩
def dkwX0_contrast_0 : List UInt8 := [43, 3, 42, 182, 0, 92, 141, 82, 167, 0, 6, 77, 4, 172, 3, 172]
abbrev dktX0_contrast_0 : List UInt8 := dkwX0_contrast_0 ++ []
theorem dksX0_contrast_0 : cX0_contrast.data.toList.drop 0 = dktX0_contrast_0 := by decide +kernel
theorem dX0_contrast_0 : decode cX0_contrast 0 = .ok (.aload_n 1, 1) := dk_43 (dk_at dksX0_contrast_0 0 rfl rfl)
theorem dX0_contrast_1 : decode cX0_contrast 1 = .ok (.iconst 0, 1) := dk_3 (dk_at dksX0_contrast_0 1 rfl rfl)
theorem dX0_contrast_2 : decode cX0_contrast 2 = .ok (.aload_n 0, 1) := dk_42 (dk_at dksX0_contrast_0 2 rfl rfl)
theorem dX0_contrast_3 : decode cX0_contrast 3 = .ok (.invokevirtual 92, 3) := dk_182 0 92 (dk_at dksX0_contrast_0 3 rfl rfl)
theorem dX0_contrast_6 : decode cX0_contrast 6 = .ok (.f2d, 1) := dk_141 (dk_at dksX0_contrast_0 6 rfl rfl)
theorem dX0_contrast_7 : decode cX0_contrast 7 = .ok (.dastore, 1) := dk_82 (dk_at dksX0_contrast_0 7 rfl rfl)
theorem dX0_contrast_8 : decode cX0_contrast 8 = .ok (.goto 6, 3) := dk_167 0 6 (dk_at dksX0_contrast_0 8 rfl rfl)
theorem dX0_contrast_11 : decode cX0_contrast 11 = .ok (.astore_n 2, 1) := dk_77 (dk_at dksX0_contrast_0 11 rfl rfl)
theorem dX0_contrast_12 : decode cX0_contrast 12 = .ok (.iconst 1, 1) := dk_4 (dk_at dksX0_contrast_0 12 rfl rfl)
theorem dX0_contrast_13 : decode cX0_contrast 13 = .ok (.ireturn, 1) := dk_172 (dk_at dksX0_contrast_0 13 rfl rfl)
theorem dX0_contrast_14 : decode cX0_contrast 14 = .ok (.iconst 0, 1) := dk_3 (dk_at dksX0_contrast_0 14 rfl rfl)
theorem dX0_contrast_15 : decode cX0_contrast 15 = .ok (.ireturn, 1) := dk_172 (dk_at dksX0_contrast_0 15 rfl rfl)
abbrev cX0_alias : ByteArray := method_27_code
def yX0_alias : MethodName := ⟨RX0, "alias", "(LAcousticCamera;III[J)I"⟩
def dkwX0_alias_1 : List UInt8 := [58, 5, 6, 172, 3, 172]
abbrev dktX0_alias_1 : List UInt8 := dkwX0_alias_1 ++ []
def dkwX0_alias_0 : List UInt8 := [25, 4, 3, 42, 27, 28, 29, 182, 0, 96, 133, 80, 167, 0, 15, 58, 5, 4, 172, 58, 5, 5, 172]
abbrev dktX0_alias_0 : List UInt8 := dkwX0_alias_0 ++ dktX0_alias_1
theorem dksX0_alias_0 : cX0_alias.data.toList.drop 0 = dktX0_alias_0 := by decide +kernel
theorem dksX0_alias_1 : cX0_alias.data.toList.drop 23 = dktX0_alias_1 := dk_seg dksX0_alias_0 23 rfl rfl
theorem dX0_alias_0 : decode cX0_alias 0 = .ok (.aload 4, 2) := dk_25 4 (dk_at dksX0_alias_0 0 rfl rfl)
theorem dX0_alias_2 : decode cX0_alias 2 = .ok (.iconst 0, 1) := dk_3 (dk_at dksX0_alias_0 2 rfl rfl)
theorem dX0_alias_3 : decode cX0_alias 3 = .ok (.aload_n 0, 1) := dk_42 (dk_at dksX0_alias_0 3 rfl rfl)
theorem dX0_alias_4 : decode cX0_alias 4 = .ok (.iload_n 1, 1) := dk_27 (dk_at dksX0_alias_0 4 rfl rfl)
theorem dX0_alias_5 : decode cX0_alias 5 = .ok (.iload_n 2, 1) := dk_28 (dk_at dksX0_alias_0 5 rfl rfl)
theorem dX0_alias_6 : decode cX0_alias 6 = .ok (.iload_n 3, 1) := dk_29 (dk_at dksX0_alias_0 6 rfl rfl)
theorem dX0_alias_7 : decode cX0_alias 7 = .ok (.invokevirtual 96, 3) := dk_182 0 96 (dk_at dksX0_alias_0 7 rfl rfl)
theorem dX0_alias_10 : decode cX0_alias 10 = .ok (.i2l, 1) := dk_133 (dk_at dksX0_alias_0 10 rfl rfl)
theorem dX0_alias_11 : decode cX0_alias 11 = .ok (.lastore, 1) := dk_80 (dk_at dksX0_alias_0 11 rfl rfl)
theorem dX0_alias_12 : decode cX0_alias 12 = .ok (.goto 15, 3) := dk_167 0 15 (dk_at dksX0_alias_0 12 rfl rfl)
theorem dX0_alias_15 : decode cX0_alias 15 = .ok (.astore 5, 2) := dk_58 5 (dk_at dksX0_alias_0 15 rfl rfl)
theorem dX0_alias_17 : decode cX0_alias 17 = .ok (.iconst 1, 1) := dk_4 (dk_at dksX0_alias_0 17 rfl rfl)
theorem dX0_alias_18 : decode cX0_alias 18 = .ok (.ireturn, 1) := dk_172 (dk_at dksX0_alias_0 18 rfl rfl)
theorem dX0_alias_19 : decode cX0_alias 19 = .ok (.astore 5, 2) := dk_58 5 (dk_at dksX0_alias_0 19 rfl rfl)
theorem dX0_alias_21 : decode cX0_alias 21 = .ok (.iconst 2, 1) := dk_5 (dk_at dksX0_alias_0 21 rfl rfl)
theorem dX0_alias_22 : decode cX0_alias 22 = .ok (.ireturn, 1) := dk_172 (dk_at dksX0_alias_0 22 rfl rfl)
theorem dX0_alias_23 : decode cX0_alias 23 = .ok (.astore 5, 2) := dk_58 5 (dk_at dksX0_alias_1 0 rfl rfl)
theorem dX0_alias_25 : decode cX0_alias 25 = .ok (.iconst 3, 1) := dk_6 (dk_at dksX0_alias_1 2 rfl rfl)
theorem dX0_alias_26 : decode cX0_alias 26 = .ok (.ireturn, 1) := dk_172 (dk_at dksX0_alias_1 3 rfl rfl)
theorem dX0_alias_27 : decode cX0_alias 27 = .ok (.iconst 0, 1) := dk_3 (dk_at dksX0_alias_1 4 rfl rfl)
theorem dX0_alias_28 : decode cX0_alias 28 = .ok (.ireturn, 1) := dk_172 (dk_at dksX0_alias_1 5 rfl rfl)
abbrev cX0_isAlias : ByteArray := method_28_code
def yX0_isAlias : MethodName := ⟨RX0, "isAlias", "(LAcousticCamera;III[J)I"⟩
def dkwX0_isAlias_1 : List UInt8 := [4, 172, 58, 5, 5, 172, 58, 5, 6, 172, 3, 172]
abbrev dktX0_isAlias_1 : List UInt8 := dkwX0_isAlias_1 ++ []
def dkwX0_isAlias_0 : List UInt8 := [25, 4, 3, 42, 27, 28, 29, 182, 0, 99, 153, 0, 7, 10, 167, 0, 4, 9, 80, 167, 0, 15, 58, 5]
abbrev dktX0_isAlias_0 : List UInt8 := dkwX0_isAlias_0 ++ dktX0_isAlias_1
theorem dksX0_isAlias_0 : cX0_isAlias.data.toList.drop 0 = dktX0_isAlias_0 := by decide +kernel
theorem dksX0_isAlias_1 : cX0_isAlias.data.toList.drop 24 = dktX0_isAlias_1 := dk_seg dksX0_isAlias_0 24 rfl rfl
theorem dX0_isAlias_0 : decode cX0_isAlias 0 = .ok (.aload 4, 2) := dk_25 4 (dk_at dksX0_isAlias_0 0 rfl rfl)
theorem dX0_isAlias_2 : decode cX0_isAlias 2 = .ok (.iconst 0, 1) := dk_3 (dk_at dksX0_isAlias_0 2 rfl rfl)
theorem dX0_isAlias_3 : decode cX0_isAlias 3 = .ok (.aload_n 0, 1) := dk_42 (dk_at dksX0_isAlias_0 3 rfl rfl)
theorem dX0_isAlias_4 : decode cX0_isAlias 4 = .ok (.iload_n 1, 1) := dk_27 (dk_at dksX0_isAlias_0 4 rfl rfl)
theorem dX0_isAlias_5 : decode cX0_isAlias 5 = .ok (.iload_n 2, 1) := dk_28 (dk_at dksX0_isAlias_0 5 rfl rfl)
theorem dX0_isAlias_6 : decode cX0_isAlias 6 = .ok (.iload_n 3, 1) := dk_29 (dk_at dksX0_isAlias_0 6 rfl rfl)
theorem dX0_isAlias_7 : decode cX0_isAlias 7 = .ok (.invokevirtual 99, 3) := dk_182 0 99 (dk_at dksX0_isAlias_0 7 rfl rfl)
theorem dX0_isAlias_10 : decode cX0_isAlias 10 = .ok (.ifCond .eq 7, 3) := dk_153 0 7 (dk_at dksX0_isAlias_0 10 rfl rfl)
theorem dX0_isAlias_13 : decode cX0_isAlias 13 = .ok (.lconst 1, 1) := dk_10 (dk_at dksX0_isAlias_0 13 rfl rfl)
theorem dX0_isAlias_14 : decode cX0_isAlias 14 = .ok (.goto 4, 3) := dk_167 0 4 (dk_at dksX0_isAlias_0 14 rfl rfl)
theorem dX0_isAlias_17 : decode cX0_isAlias 17 = .ok (.lconst 0, 1) := dk_9 (dk_at dksX0_isAlias_0 17 rfl rfl)
theorem dX0_isAlias_18 : decode cX0_isAlias 18 = .ok (.lastore, 1) := dk_80 (dk_at dksX0_isAlias_0 18 rfl rfl)
theorem dX0_isAlias_19 : decode cX0_isAlias 19 = .ok (.goto 15, 3) := dk_167 0 15 (dk_at dksX0_isAlias_0 19 rfl rfl)
theorem dX0_isAlias_22 : decode cX0_isAlias 22 = .ok (.astore 5, 2) := dk_58 5 (dk_at dksX0_isAlias_0 22 rfl rfl)
theorem dX0_isAlias_24 : decode cX0_isAlias 24 = .ok (.iconst 1, 1) := dk_4 (dk_at dksX0_isAlias_1 0 rfl rfl)
theorem dX0_isAlias_25 : decode cX0_isAlias 25 = .ok (.ireturn, 1) := dk_172 (dk_at dksX0_isAlias_1 1 rfl rfl)
theorem dX0_isAlias_26 : decode cX0_isAlias 26 = .ok (.astore 5, 2) := dk_58 5 (dk_at dksX0_isAlias_1 2 rfl rfl)
theorem dX0_isAlias_28 : decode cX0_isAlias 28 = .ok (.iconst 2, 1) := dk_5 (dk_at dksX0_isAlias_1 4 rfl rfl)
theorem dX0_isAlias_29 : decode cX0_isAlias 29 = .ok (.ireturn, 1) := dk_172 (dk_at dksX0_isAlias_1 5 rfl rfl)
theorem dX0_isAlias_30 : decode cX0_isAlias 30 = .ok (.astore 5, 2) := dk_58 5 (dk_at dksX0_isAlias_1 6 rfl rfl)
theorem dX0_isAlias_32 : decode cX0_isAlias 32 = .ok (.iconst 3, 1) := dk_6 (dk_at dksX0_isAlias_1 8 rfl rfl)
theorem dX0_isAlias_33 : decode cX0_isAlias 33 = .ok (.ireturn, 1) := dk_172 (dk_at dksX0_isAlias_1 9 rfl rfl)
theorem dX0_isAlias_34 : decode cX0_isAlias 34 = .ok (.iconst 0, 1) := dk_3 (dk_at dksX0_isAlias_1 10 rfl rfl)
theorem dX0_isAlias_35 : decode cX0_isAlias 35 = .ok (.ireturn, 1) := dk_172 (dk_at dksX0_isAlias_1 11 rfl rfl)
abbrev cX0_aliases : ByteArray := method_29_code
def yX0_aliases : MethodName := ⟨RX0, "aliases", "(LAcousticCamera;II[J)I"⟩
def dkwX0_aliases_0 : List UInt8 := [45, 3, 42, 27, 28, 182, 0, 103, 133, 80, 167, 0, 11, 58, 4, 4, 172, 58, 4, 5, 172, 3, 172]
abbrev dktX0_aliases_0 : List UInt8 := dkwX0_aliases_0 ++ []
theorem dksX0_aliases_0 : cX0_aliases.data.toList.drop 0 = dktX0_aliases_0 := by decide +kernel
theorem dX0_aliases_0 : decode cX0_aliases 0 = .ok (.aload_n 3, 1) := dk_45 (dk_at dksX0_aliases_0 0 rfl rfl)
theorem dX0_aliases_1 : decode cX0_aliases 1 = .ok (.iconst 0, 1) := dk_3 (dk_at dksX0_aliases_0 1 rfl rfl)
theorem dX0_aliases_2 : decode cX0_aliases 2 = .ok (.aload_n 0, 1) := dk_42 (dk_at dksX0_aliases_0 2 rfl rfl)
theorem dX0_aliases_3 : decode cX0_aliases 3 = .ok (.iload_n 1, 1) := dk_27 (dk_at dksX0_aliases_0 3 rfl rfl)
theorem dX0_aliases_4 : decode cX0_aliases 4 = .ok (.iload_n 2, 1) := dk_28 (dk_at dksX0_aliases_0 4 rfl rfl)
theorem dX0_aliases_5 : decode cX0_aliases 5 = .ok (.invokevirtual 103, 3) := dk_182 0 103 (dk_at dksX0_aliases_0 5 rfl rfl)
theorem dX0_aliases_8 : decode cX0_aliases 8 = .ok (.i2l, 1) := dk_133 (dk_at dksX0_aliases_0 8 rfl rfl)
theorem dX0_aliases_9 : decode cX0_aliases 9 = .ok (.lastore, 1) := dk_80 (dk_at dksX0_aliases_0 9 rfl rfl)
theorem dX0_aliases_10 : decode cX0_aliases 10 = .ok (.goto 11, 3) := dk_167 0 11 (dk_at dksX0_aliases_0 10 rfl rfl)
theorem dX0_aliases_13 : decode cX0_aliases 13 = .ok (.astore 4, 2) := dk_58 4 (dk_at dksX0_aliases_0 13 rfl rfl)
theorem dX0_aliases_15 : decode cX0_aliases 15 = .ok (.iconst 1, 1) := dk_4 (dk_at dksX0_aliases_0 15 rfl rfl)
theorem dX0_aliases_16 : decode cX0_aliases 16 = .ok (.ireturn, 1) := dk_172 (dk_at dksX0_aliases_0 16 rfl rfl)
theorem dX0_aliases_17 : decode cX0_aliases 17 = .ok (.astore 4, 2) := dk_58 4 (dk_at dksX0_aliases_0 17 rfl rfl)
theorem dX0_aliases_19 : decode cX0_aliases 19 = .ok (.iconst 2, 1) := dk_5 (dk_at dksX0_aliases_0 19 rfl rfl)
theorem dX0_aliases_20 : decode cX0_aliases 20 = .ok (.ireturn, 1) := dk_172 (dk_at dksX0_aliases_0 20 rfl rfl)
theorem dX0_aliases_21 : decode cX0_aliases 21 = .ok (.iconst 0, 1) := dk_3 (dk_at dksX0_aliases_0 21 rfl rfl)
theorem dX0_aliases_22 : decode cX0_aliases 22 = .ok (.ireturn, 1) := dk_172 (dk_at dksX0_aliases_0 22 rfl rfl)
abbrev cX0_blockPower : ByteArray := method_30_code
def yX0_blockPower : MethodName := ⟨RX0, "blockPower", "(LAcousticCamera;III[J)I"⟩
def dkwX0_blockPower_1 : List UInt8 := [6, 172, 3, 172]
abbrev dktX0_blockPower_1 : List UInt8 := dkwX0_blockPower_1 ++ []
def dkwX0_blockPower_0 : List UInt8 := [25, 4, 3, 42, 27, 28, 29, 182, 0, 106, 80, 167, 0, 15, 58, 5, 4, 172, 58, 5, 5, 172, 58, 5]
abbrev dktX0_blockPower_0 : List UInt8 := dkwX0_blockPower_0 ++ dktX0_blockPower_1
theorem dksX0_blockPower_0 : cX0_blockPower.data.toList.drop 0 = dktX0_blockPower_0 := by decide +kernel
theorem dksX0_blockPower_1 : cX0_blockPower.data.toList.drop 24 = dktX0_blockPower_1 := dk_seg dksX0_blockPower_0 24 rfl rfl
theorem dX0_blockPower_0 : decode cX0_blockPower 0 = .ok (.aload 4, 2) := dk_25 4 (dk_at dksX0_blockPower_0 0 rfl rfl)
theorem dX0_blockPower_2 : decode cX0_blockPower 2 = .ok (.iconst 0, 1) := dk_3 (dk_at dksX0_blockPower_0 2 rfl rfl)
theorem dX0_blockPower_3 : decode cX0_blockPower 3 = .ok (.aload_n 0, 1) := dk_42 (dk_at dksX0_blockPower_0 3 rfl rfl)
theorem dX0_blockPower_4 : decode cX0_blockPower 4 = .ok (.iload_n 1, 1) := dk_27 (dk_at dksX0_blockPower_0 4 rfl rfl)
theorem dX0_blockPower_5 : decode cX0_blockPower 5 = .ok (.iload_n 2, 1) := dk_28 (dk_at dksX0_blockPower_0 5 rfl rfl)
theorem dX0_blockPower_6 : decode cX0_blockPower 6 = .ok (.iload_n 3, 1) := dk_29 (dk_at dksX0_blockPower_0 6 rfl rfl)
theorem dX0_blockPower_7 : decode cX0_blockPower 7 = .ok (.invokevirtual 106, 3) := dk_182 0 106 (dk_at dksX0_blockPower_0 7 rfl rfl)
theorem dX0_blockPower_10 : decode cX0_blockPower 10 = .ok (.lastore, 1) := dk_80 (dk_at dksX0_blockPower_0 10 rfl rfl)
theorem dX0_blockPower_11 : decode cX0_blockPower 11 = .ok (.goto 15, 3) := dk_167 0 15 (dk_at dksX0_blockPower_0 11 rfl rfl)
theorem dX0_blockPower_14 : decode cX0_blockPower 14 = .ok (.astore 5, 2) := dk_58 5 (dk_at dksX0_blockPower_0 14 rfl rfl)
theorem dX0_blockPower_16 : decode cX0_blockPower 16 = .ok (.iconst 1, 1) := dk_4 (dk_at dksX0_blockPower_0 16 rfl rfl)
theorem dX0_blockPower_17 : decode cX0_blockPower 17 = .ok (.ireturn, 1) := dk_172 (dk_at dksX0_blockPower_0 17 rfl rfl)
theorem dX0_blockPower_18 : decode cX0_blockPower 18 = .ok (.astore 5, 2) := dk_58 5 (dk_at dksX0_blockPower_0 18 rfl rfl)
theorem dX0_blockPower_20 : decode cX0_blockPower 20 = .ok (.iconst 2, 1) := dk_5 (dk_at dksX0_blockPower_0 20 rfl rfl)
theorem dX0_blockPower_21 : decode cX0_blockPower 21 = .ok (.ireturn, 1) := dk_172 (dk_at dksX0_blockPower_0 21 rfl rfl)
theorem dX0_blockPower_22 : decode cX0_blockPower 22 = .ok (.astore 5, 2) := dk_58 5 (dk_at dksX0_blockPower_0 22 rfl rfl)
theorem dX0_blockPower_24 : decode cX0_blockPower 24 = .ok (.iconst 3, 1) := dk_6 (dk_at dksX0_blockPower_1 0 rfl rfl)
theorem dX0_blockPower_25 : decode cX0_blockPower 25 = .ok (.ireturn, 1) := dk_172 (dk_at dksX0_blockPower_1 1 rfl rfl)
theorem dX0_blockPower_26 : decode cX0_blockPower 26 = .ok (.iconst 0, 1) := dk_3 (dk_at dksX0_blockPower_1 2 rfl rfl)
theorem dX0_blockPower_27 : decode cX0_blockPower 27 = .ok (.ireturn, 1) := dk_172 (dk_at dksX0_blockPower_1 3 rfl rfl)
abbrev cX0_blockBest : ByteArray := method_31_code
def yX0_blockBest : MethodName := ⟨RX0, "blockBest", "(LAcousticCamera;II[J)I"⟩
def dkwX0_blockBest_0 : List UInt8 := [45, 3, 42, 27, 28, 182, 0, 110, 133, 80, 167, 0, 11, 58, 4, 4, 172, 58, 4, 5, 172, 3, 172]
abbrev dktX0_blockBest_0 : List UInt8 := dkwX0_blockBest_0 ++ []
theorem dksX0_blockBest_0 : cX0_blockBest.data.toList.drop 0 = dktX0_blockBest_0 := by decide +kernel
theorem dX0_blockBest_0 : decode cX0_blockBest 0 = .ok (.aload_n 3, 1) := dk_45 (dk_at dksX0_blockBest_0 0 rfl rfl)
theorem dX0_blockBest_1 : decode cX0_blockBest 1 = .ok (.iconst 0, 1) := dk_3 (dk_at dksX0_blockBest_0 1 rfl rfl)
theorem dX0_blockBest_2 : decode cX0_blockBest 2 = .ok (.aload_n 0, 1) := dk_42 (dk_at dksX0_blockBest_0 2 rfl rfl)
theorem dX0_blockBest_3 : decode cX0_blockBest 3 = .ok (.iload_n 1, 1) := dk_27 (dk_at dksX0_blockBest_0 3 rfl rfl)
theorem dX0_blockBest_4 : decode cX0_blockBest 4 = .ok (.iload_n 2, 1) := dk_28 (dk_at dksX0_blockBest_0 4 rfl rfl)
theorem dX0_blockBest_5 : decode cX0_blockBest 5 = .ok (.invokevirtual 110, 3) := dk_182 0 110 (dk_at dksX0_blockBest_0 5 rfl rfl)
theorem dX0_blockBest_8 : decode cX0_blockBest 8 = .ok (.i2l, 1) := dk_133 (dk_at dksX0_blockBest_0 8 rfl rfl)
theorem dX0_blockBest_9 : decode cX0_blockBest 9 = .ok (.lastore, 1) := dk_80 (dk_at dksX0_blockBest_0 9 rfl rfl)
theorem dX0_blockBest_10 : decode cX0_blockBest 10 = .ok (.goto 11, 3) := dk_167 0 11 (dk_at dksX0_blockBest_0 10 rfl rfl)
theorem dX0_blockBest_13 : decode cX0_blockBest 13 = .ok (.astore 4, 2) := dk_58 4 (dk_at dksX0_blockBest_0 13 rfl rfl)
theorem dX0_blockBest_15 : decode cX0_blockBest 15 = .ok (.iconst 1, 1) := dk_4 (dk_at dksX0_blockBest_0 15 rfl rfl)
theorem dX0_blockBest_16 : decode cX0_blockBest 16 = .ok (.ireturn, 1) := dk_172 (dk_at dksX0_blockBest_0 16 rfl rfl)
theorem dX0_blockBest_17 : decode cX0_blockBest 17 = .ok (.astore 4, 2) := dk_58 4 (dk_at dksX0_blockBest_0 17 rfl rfl)
theorem dX0_blockBest_19 : decode cX0_blockBest 19 = .ok (.iconst 2, 1) := dk_5 (dk_at dksX0_blockBest_0 19 rfl rfl)
theorem dX0_blockBest_20 : decode cX0_blockBest 20 = .ok (.ireturn, 1) := dk_172 (dk_at dksX0_blockBest_0 20 rfl rfl)
theorem dX0_blockBest_21 : decode cX0_blockBest 21 = .ok (.iconst 0, 1) := dk_3 (dk_at dksX0_blockBest_0 21 rfl rfl)
theorem dX0_blockBest_22 : decode cX0_blockBest 22 = .ok (.ireturn, 1) := dk_172 (dk_at dksX0_blockBest_0 22 rfl rfl)
abbrev cX0_path : ByteArray := method_32_code
def yX0_path : MethodName := ⟨RX0, "path", "(LAcousticCamera;I[J)I"⟩
def dkwX0_path_0 : List UInt8 := [44, 3, 42, 27, 182, 0, 113, 133, 80, 167, 0, 9, 78, 4, 172, 78, 5, 172, 3, 172]
abbrev dktX0_path_0 : List UInt8 := dkwX0_path_0 ++ []
theorem dksX0_path_0 : cX0_path.data.toList.drop 0 = dktX0_path_0 := by decide +kernel
theorem dX0_path_0 : decode cX0_path 0 = .ok (.aload_n 2, 1) := dk_44 (dk_at dksX0_path_0 0 rfl rfl)
theorem dX0_path_1 : decode cX0_path 1 = .ok (.iconst 0, 1) := dk_3 (dk_at dksX0_path_0 1 rfl rfl)
theorem dX0_path_2 : decode cX0_path 2 = .ok (.aload_n 0, 1) := dk_42 (dk_at dksX0_path_0 2 rfl rfl)
theorem dX0_path_3 : decode cX0_path 3 = .ok (.iload_n 1, 1) := dk_27 (dk_at dksX0_path_0 3 rfl rfl)
theorem dX0_path_4 : decode cX0_path 4 = .ok (.invokevirtual 113, 3) := dk_182 0 113 (dk_at dksX0_path_0 4 rfl rfl)
theorem dX0_path_7 : decode cX0_path 7 = .ok (.i2l, 1) := dk_133 (dk_at dksX0_path_0 7 rfl rfl)
theorem dX0_path_8 : decode cX0_path 8 = .ok (.lastore, 1) := dk_80 (dk_at dksX0_path_0 8 rfl rfl)
theorem dX0_path_9 : decode cX0_path 9 = .ok (.goto 9, 3) := dk_167 0 9 (dk_at dksX0_path_0 9 rfl rfl)
theorem dX0_path_12 : decode cX0_path 12 = .ok (.astore_n 3, 1) := dk_78 (dk_at dksX0_path_0 12 rfl rfl)
theorem dX0_path_13 : decode cX0_path 13 = .ok (.iconst 1, 1) := dk_4 (dk_at dksX0_path_0 13 rfl rfl)
theorem dX0_path_14 : decode cX0_path 14 = .ok (.ireturn, 1) := dk_172 (dk_at dksX0_path_0 14 rfl rfl)
theorem dX0_path_15 : decode cX0_path 15 = .ok (.astore_n 3, 1) := dk_78 (dk_at dksX0_path_0 15 rfl rfl)
theorem dX0_path_16 : decode cX0_path 16 = .ok (.iconst 2, 1) := dk_5 (dk_at dksX0_path_0 16 rfl rfl)
theorem dX0_path_17 : decode cX0_path 17 = .ok (.ireturn, 1) := dk_172 (dk_at dksX0_path_0 17 rfl rfl)
theorem dX0_path_18 : decode cX0_path 18 = .ok (.iconst 0, 1) := dk_3 (dk_at dksX0_path_0 18 rfl rfl)
theorem dX0_path_19 : decode cX0_path 19 = .ok (.ireturn, 1) := dk_172 (dk_at dksX0_path_0 19 rfl rfl)
abbrev cX0_trackScore : ByteArray := method_33_code
def yX0_trackScore : MethodName := ⟨RX0, "trackScore", "(LAcousticCamera;I[J)I"⟩
def dkwX0_trackScore_0 : List UInt8 := [44, 3, 42, 27, 182, 0, 116, 80, 167, 0, 9, 78, 4, 172, 78, 5, 172, 3, 172]
abbrev dktX0_trackScore_0 : List UInt8 := dkwX0_trackScore_0 ++ []
theorem dksX0_trackScore_0 : cX0_trackScore.data.toList.drop 0 = dktX0_trackScore_0 := by decide +kernel
theorem dX0_trackScore_0 : decode cX0_trackScore 0 = .ok (.aload_n 2, 1) := dk_44 (dk_at dksX0_trackScore_0 0 rfl rfl)
theorem dX0_trackScore_1 : decode cX0_trackScore 1 = .ok (.iconst 0, 1) := dk_3 (dk_at dksX0_trackScore_0 1 rfl rfl)
theorem dX0_trackScore_2 : decode cX0_trackScore 2 = .ok (.aload_n 0, 1) := dk_42 (dk_at dksX0_trackScore_0 2 rfl rfl)
theorem dX0_trackScore_3 : decode cX0_trackScore 3 = .ok (.iload_n 1, 1) := dk_27 (dk_at dksX0_trackScore_0 3 rfl rfl)
theorem dX0_trackScore_4 : decode cX0_trackScore 4 = .ok (.invokevirtual 116, 3) := dk_182 0 116 (dk_at dksX0_trackScore_0 4 rfl rfl)
theorem dX0_trackScore_7 : decode cX0_trackScore 7 = .ok (.lastore, 1) := dk_80 (dk_at dksX0_trackScore_0 7 rfl rfl)
theorem dX0_trackScore_8 : decode cX0_trackScore 8 = .ok (.goto 9, 3) := dk_167 0 9 (dk_at dksX0_trackScore_0 8 rfl rfl)
theorem dX0_trackScore_11 : decode cX0_trackScore 11 = .ok (.astore_n 3, 1) := dk_78 (dk_at dksX0_trackScore_0 11 rfl rfl)
theorem dX0_trackScore_12 : decode cX0_trackScore 12 = .ok (.iconst 1, 1) := dk_4 (dk_at dksX0_trackScore_0 12 rfl rfl)
theorem dX0_trackScore_13 : decode cX0_trackScore 13 = .ok (.ireturn, 1) := dk_172 (dk_at dksX0_trackScore_0 13 rfl rfl)
theorem dX0_trackScore_14 : decode cX0_trackScore 14 = .ok (.astore_n 3, 1) := dk_78 (dk_at dksX0_trackScore_0 14 rfl rfl)
theorem dX0_trackScore_15 : decode cX0_trackScore 15 = .ok (.iconst 2, 1) := dk_5 (dk_at dksX0_trackScore_0 15 rfl rfl)
theorem dX0_trackScore_16 : decode cX0_trackScore 16 = .ok (.ireturn, 1) := dk_172 (dk_at dksX0_trackScore_0 16 rfl rfl)
theorem dX0_trackScore_17 : decode cX0_trackScore 17 = .ok (.iconst 0, 1) := dk_3 (dk_at dksX0_trackScore_0 17 rfl rfl)
theorem dX0_trackScore_18 : decode cX0_trackScore 18 = .ok (.ireturn, 1) := dk_172 (dk_at dksX0_trackScore_0 18 rfl rfl)
abbrev cX0_trackCell : ByteArray := method_34_code
def yX0_trackCell : MethodName := ⟨RX0, "trackCell", "(LAcousticCamera;II[J)I"⟩
def dkwX0_trackCell_1 : List UInt8 := [172, 3, 172]
abbrev dktX0_trackCell_1 : List UInt8 := dkwX0_trackCell_1 ++ []
def dkwX0_trackCell_0 : List UInt8 := [45, 3, 42, 27, 28, 182, 0, 119, 133, 80, 167, 0, 15, 58, 4, 4, 172, 58, 4, 5, 172, 58, 4, 6]
abbrev dktX0_trackCell_0 : List UInt8 := dkwX0_trackCell_0 ++ dktX0_trackCell_1
theorem dksX0_trackCell_0 : cX0_trackCell.data.toList.drop 0 = dktX0_trackCell_0 := by decide +kernel
theorem dksX0_trackCell_1 : cX0_trackCell.data.toList.drop 24 = dktX0_trackCell_1 := dk_seg dksX0_trackCell_0 24 rfl rfl
theorem dX0_trackCell_0 : decode cX0_trackCell 0 = .ok (.aload_n 3, 1) := dk_45 (dk_at dksX0_trackCell_0 0 rfl rfl)
theorem dX0_trackCell_1 : decode cX0_trackCell 1 = .ok (.iconst 0, 1) := dk_3 (dk_at dksX0_trackCell_0 1 rfl rfl)
theorem dX0_trackCell_2 : decode cX0_trackCell 2 = .ok (.aload_n 0, 1) := dk_42 (dk_at dksX0_trackCell_0 2 rfl rfl)
theorem dX0_trackCell_3 : decode cX0_trackCell 3 = .ok (.iload_n 1, 1) := dk_27 (dk_at dksX0_trackCell_0 3 rfl rfl)
theorem dX0_trackCell_4 : decode cX0_trackCell 4 = .ok (.iload_n 2, 1) := dk_28 (dk_at dksX0_trackCell_0 4 rfl rfl)
theorem dX0_trackCell_5 : decode cX0_trackCell 5 = .ok (.invokevirtual 119, 3) := dk_182 0 119 (dk_at dksX0_trackCell_0 5 rfl rfl)
theorem dX0_trackCell_8 : decode cX0_trackCell 8 = .ok (.i2l, 1) := dk_133 (dk_at dksX0_trackCell_0 8 rfl rfl)
theorem dX0_trackCell_9 : decode cX0_trackCell 9 = .ok (.lastore, 1) := dk_80 (dk_at dksX0_trackCell_0 9 rfl rfl)
theorem dX0_trackCell_10 : decode cX0_trackCell 10 = .ok (.goto 15, 3) := dk_167 0 15 (dk_at dksX0_trackCell_0 10 rfl rfl)
theorem dX0_trackCell_13 : decode cX0_trackCell 13 = .ok (.astore 4, 2) := dk_58 4 (dk_at dksX0_trackCell_0 13 rfl rfl)
theorem dX0_trackCell_15 : decode cX0_trackCell 15 = .ok (.iconst 1, 1) := dk_4 (dk_at dksX0_trackCell_0 15 rfl rfl)
theorem dX0_trackCell_16 : decode cX0_trackCell 16 = .ok (.ireturn, 1) := dk_172 (dk_at dksX0_trackCell_0 16 rfl rfl)
theorem dX0_trackCell_17 : decode cX0_trackCell 17 = .ok (.astore 4, 2) := dk_58 4 (dk_at dksX0_trackCell_0 17 rfl rfl)
theorem dX0_trackCell_19 : decode cX0_trackCell 19 = .ok (.iconst 2, 1) := dk_5 (dk_at dksX0_trackCell_0 19 rfl rfl)
theorem dX0_trackCell_20 : decode cX0_trackCell 20 = .ok (.ireturn, 1) := dk_172 (dk_at dksX0_trackCell_0 20 rfl rfl)
theorem dX0_trackCell_21 : decode cX0_trackCell 21 = .ok (.astore 4, 2) := dk_58 4 (dk_at dksX0_trackCell_0 21 rfl rfl)
theorem dX0_trackCell_23 : decode cX0_trackCell 23 = .ok (.iconst 3, 1) := dk_6 (dk_at dksX0_trackCell_0 23 rfl rfl)
theorem dX0_trackCell_24 : decode cX0_trackCell 24 = .ok (.ireturn, 1) := dk_172 (dk_at dksX0_trackCell_1 0 rfl rfl)
theorem dX0_trackCell_25 : decode cX0_trackCell 25 = .ok (.iconst 0, 1) := dk_3 (dk_at dksX0_trackCell_1 1 rfl rfl)
theorem dX0_trackCell_26 : decode cX0_trackCell 26 = .ok (.ireturn, 1) := dk_172 (dk_at dksX0_trackCell_1 2 rfl rfl)
abbrev cX0_movingPower : ByteArray := method_35_code
def yX0_movingPower : MethodName := ⟨RX0, "movingPower", "(LAcousticCamera;III[J)I"⟩
def dkwX0_movingPower_1 : List UInt8 := [6, 172, 3, 172]
abbrev dktX0_movingPower_1 : List UInt8 := dkwX0_movingPower_1 ++ []
def dkwX0_movingPower_0 : List UInt8 := [25, 4, 3, 42, 27, 28, 29, 182, 0, 122, 80, 167, 0, 15, 58, 5, 4, 172, 58, 5, 5, 172, 58, 5]
abbrev dktX0_movingPower_0 : List UInt8 := dkwX0_movingPower_0 ++ dktX0_movingPower_1
theorem dksX0_movingPower_0 : cX0_movingPower.data.toList.drop 0 = dktX0_movingPower_0 := by decide +kernel
theorem dksX0_movingPower_1 : cX0_movingPower.data.toList.drop 24 = dktX0_movingPower_1 := dk_seg dksX0_movingPower_0 24 rfl rfl
theorem dX0_movingPower_0 : decode cX0_movingPower 0 = .ok (.aload 4, 2) := dk_25 4 (dk_at dksX0_movingPower_0 0 rfl rfl)
theorem dX0_movingPower_2 : decode cX0_movingPower 2 = .ok (.iconst 0, 1) := dk_3 (dk_at dksX0_movingPower_0 2 rfl rfl)
theorem dX0_movingPower_3 : decode cX0_movingPower 3 = .ok (.aload_n 0, 1) := dk_42 (dk_at dksX0_movingPower_0 3 rfl rfl)
theorem dX0_movingPower_4 : decode cX0_movingPower 4 = .ok (.iload_n 1, 1) := dk_27 (dk_at dksX0_movingPower_0 4 rfl rfl)
theorem dX0_movingPower_5 : decode cX0_movingPower 5 = .ok (.iload_n 2, 1) := dk_28 (dk_at dksX0_movingPower_0 5 rfl rfl)
theorem dX0_movingPower_6 : decode cX0_movingPower 6 = .ok (.iload_n 3, 1) := dk_29 (dk_at dksX0_movingPower_0 6 rfl rfl)
theorem dX0_movingPower_7 : decode cX0_movingPower 7 = .ok (.invokevirtual 122, 3) := dk_182 0 122 (dk_at dksX0_movingPower_0 7 rfl rfl)
theorem dX0_movingPower_10 : decode cX0_movingPower 10 = .ok (.lastore, 1) := dk_80 (dk_at dksX0_movingPower_0 10 rfl rfl)
theorem dX0_movingPower_11 : decode cX0_movingPower 11 = .ok (.goto 15, 3) := dk_167 0 15 (dk_at dksX0_movingPower_0 11 rfl rfl)
theorem dX0_movingPower_14 : decode cX0_movingPower 14 = .ok (.astore 5, 2) := dk_58 5 (dk_at dksX0_movingPower_0 14 rfl rfl)
theorem dX0_movingPower_16 : decode cX0_movingPower 16 = .ok (.iconst 1, 1) := dk_4 (dk_at dksX0_movingPower_0 16 rfl rfl)
theorem dX0_movingPower_17 : decode cX0_movingPower 17 = .ok (.ireturn, 1) := dk_172 (dk_at dksX0_movingPower_0 17 rfl rfl)
theorem dX0_movingPower_18 : decode cX0_movingPower 18 = .ok (.astore 5, 2) := dk_58 5 (dk_at dksX0_movingPower_0 18 rfl rfl)
theorem dX0_movingPower_20 : decode cX0_movingPower 20 = .ok (.iconst 2, 1) := dk_5 (dk_at dksX0_movingPower_0 20 rfl rfl)
theorem dX0_movingPower_21 : decode cX0_movingPower 21 = .ok (.ireturn, 1) := dk_172 (dk_at dksX0_movingPower_0 21 rfl rfl)
theorem dX0_movingPower_22 : decode cX0_movingPower 22 = .ok (.astore 5, 2) := dk_58 5 (dk_at dksX0_movingPower_0 22 rfl rfl)
theorem dX0_movingPower_24 : decode cX0_movingPower 24 = .ok (.iconst 3, 1) := dk_6 (dk_at dksX0_movingPower_1 0 rfl rfl)
theorem dX0_movingPower_25 : decode cX0_movingPower 25 = .ok (.ireturn, 1) := dk_172 (dk_at dksX0_movingPower_1 1 rfl rfl)
theorem dX0_movingPower_26 : decode cX0_movingPower 26 = .ok (.iconst 0, 1) := dk_3 (dk_at dksX0_movingPower_1 2 rfl rfl)
theorem dX0_movingPower_27 : decode cX0_movingPower 27 = .ok (.ireturn, 1) := dk_172 (dk_at dksX0_movingPower_1 3 rfl rfl)
abbrev cX0_bestVelocity : ByteArray := method_36_code
def yX0_bestVelocity : MethodName := ⟨RX0, "bestVelocity", "(LAcousticCamera;III[J)I"⟩
def dkwX0_bestVelocity_1 : List UInt8 := [58, 5, 6, 172, 3, 172]
abbrev dktX0_bestVelocity_1 : List UInt8 := dkwX0_bestVelocity_1 ++ []
def dkwX0_bestVelocity_0 : List UInt8 := [25, 4, 3, 42, 27, 28, 29, 182, 0, 125, 133, 80, 167, 0, 15, 58, 5, 4, 172, 58, 5, 5, 172]
abbrev dktX0_bestVelocity_0 : List UInt8 := dkwX0_bestVelocity_0 ++ dktX0_bestVelocity_1
theorem dksX0_bestVelocity_0 : cX0_bestVelocity.data.toList.drop 0 = dktX0_bestVelocity_0 := by decide +kernel
theorem dksX0_bestVelocity_1 : cX0_bestVelocity.data.toList.drop 23 = dktX0_bestVelocity_1 := dk_seg dksX0_bestVelocity_0 23 rfl rfl
theorem dX0_bestVelocity_0 : decode cX0_bestVelocity 0 = .ok (.aload 4, 2) := dk_25 4 (dk_at dksX0_bestVelocity_0 0 rfl rfl)
theorem dX0_bestVelocity_2 : decode cX0_bestVelocity 2 = .ok (.iconst 0, 1) := dk_3 (dk_at dksX0_bestVelocity_0 2 rfl rfl)
theorem dX0_bestVelocity_3 : decode cX0_bestVelocity 3 = .ok (.aload_n 0, 1) := dk_42 (dk_at dksX0_bestVelocity_0 3 rfl rfl)
theorem dX0_bestVelocity_4 : decode cX0_bestVelocity 4 = .ok (.iload_n 1, 1) := dk_27 (dk_at dksX0_bestVelocity_0 4 rfl rfl)
theorem dX0_bestVelocity_5 : decode cX0_bestVelocity 5 = .ok (.iload_n 2, 1) := dk_28 (dk_at dksX0_bestVelocity_0 5 rfl rfl)
theorem dX0_bestVelocity_6 : decode cX0_bestVelocity 6 = .ok (.iload_n 3, 1) := dk_29 (dk_at dksX0_bestVelocity_0 6 rfl rfl)
theorem dX0_bestVelocity_7 : decode cX0_bestVelocity 7 = .ok (.invokevirtual 125, 3) := dk_182 0 125 (dk_at dksX0_bestVelocity_0 7 rfl rfl)
theorem dX0_bestVelocity_10 : decode cX0_bestVelocity 10 = .ok (.i2l, 1) := dk_133 (dk_at dksX0_bestVelocity_0 10 rfl rfl)
theorem dX0_bestVelocity_11 : decode cX0_bestVelocity 11 = .ok (.lastore, 1) := dk_80 (dk_at dksX0_bestVelocity_0 11 rfl rfl)
theorem dX0_bestVelocity_12 : decode cX0_bestVelocity 12 = .ok (.goto 15, 3) := dk_167 0 15 (dk_at dksX0_bestVelocity_0 12 rfl rfl)
theorem dX0_bestVelocity_15 : decode cX0_bestVelocity 15 = .ok (.astore 5, 2) := dk_58 5 (dk_at dksX0_bestVelocity_0 15 rfl rfl)
theorem dX0_bestVelocity_17 : decode cX0_bestVelocity 17 = .ok (.iconst 1, 1) := dk_4 (dk_at dksX0_bestVelocity_0 17 rfl rfl)
theorem dX0_bestVelocity_18 : decode cX0_bestVelocity 18 = .ok (.ireturn, 1) := dk_172 (dk_at dksX0_bestVelocity_0 18 rfl rfl)
theorem dX0_bestVelocity_19 : decode cX0_bestVelocity 19 = .ok (.astore 5, 2) := dk_58 5 (dk_at dksX0_bestVelocity_0 19 rfl rfl)
theorem dX0_bestVelocity_21 : decode cX0_bestVelocity 21 = .ok (.iconst 2, 1) := dk_5 (dk_at dksX0_bestVelocity_0 21 rfl rfl)
theorem dX0_bestVelocity_22 : decode cX0_bestVelocity 22 = .ok (.ireturn, 1) := dk_172 (dk_at dksX0_bestVelocity_0 22 rfl rfl)
theorem dX0_bestVelocity_23 : decode cX0_bestVelocity 23 = .ok (.astore 5, 2) := dk_58 5 (dk_at dksX0_bestVelocity_1 0 rfl rfl)
theorem dX0_bestVelocity_25 : decode cX0_bestVelocity 25 = .ok (.iconst 3, 1) := dk_6 (dk_at dksX0_bestVelocity_1 2 rfl rfl)
theorem dX0_bestVelocity_26 : decode cX0_bestVelocity 26 = .ok (.ireturn, 1) := dk_172 (dk_at dksX0_bestVelocity_1 3 rfl rfl)
theorem dX0_bestVelocity_27 : decode cX0_bestVelocity 27 = .ok (.iconst 0, 1) := dk_3 (dk_at dksX0_bestVelocity_1 4 rfl rfl)
theorem dX0_bestVelocity_28 : decode cX0_bestVelocity 28 = .ok (.ireturn, 1) := dk_172 (dk_at dksX0_bestVelocity_1 5 rfl rfl)
abbrev cX0_correlation : ByteArray := method_37_code
def yX0_correlation : MethodName := ⟨RX0, "correlation", "(LAcousticCamera;III[J)I"⟩
def dkwX0_correlation_1 : List UInt8 := [6, 172, 3, 172]
abbrev dktX0_correlation_1 : List UInt8 := dkwX0_correlation_1 ++ []
def dkwX0_correlation_0 : List UInt8 := [25, 4, 3, 42, 27, 28, 29, 182, 0, 128, 80, 167, 0, 15, 58, 5, 4, 172, 58, 5, 5, 172, 58, 5]
abbrev dktX0_correlation_0 : List UInt8 := dkwX0_correlation_0 ++ dktX0_correlation_1
theorem dksX0_correlation_0 : cX0_correlation.data.toList.drop 0 = dktX0_correlation_0 := by decide +kernel
theorem dksX0_correlation_1 : cX0_correlation.data.toList.drop 24 = dktX0_correlation_1 := dk_seg dksX0_correlation_0 24 rfl rfl
theorem dX0_correlation_0 : decode cX0_correlation 0 = .ok (.aload 4, 2) := dk_25 4 (dk_at dksX0_correlation_0 0 rfl rfl)
theorem dX0_correlation_2 : decode cX0_correlation 2 = .ok (.iconst 0, 1) := dk_3 (dk_at dksX0_correlation_0 2 rfl rfl)
theorem dX0_correlation_3 : decode cX0_correlation 3 = .ok (.aload_n 0, 1) := dk_42 (dk_at dksX0_correlation_0 3 rfl rfl)
theorem dX0_correlation_4 : decode cX0_correlation 4 = .ok (.iload_n 1, 1) := dk_27 (dk_at dksX0_correlation_0 4 rfl rfl)
theorem dX0_correlation_5 : decode cX0_correlation 5 = .ok (.iload_n 2, 1) := dk_28 (dk_at dksX0_correlation_0 5 rfl rfl)
theorem dX0_correlation_6 : decode cX0_correlation 6 = .ok (.iload_n 3, 1) := dk_29 (dk_at dksX0_correlation_0 6 rfl rfl)
theorem dX0_correlation_7 : decode cX0_correlation 7 = .ok (.invokevirtual 128, 3) := dk_182 0 128 (dk_at dksX0_correlation_0 7 rfl rfl)
theorem dX0_correlation_10 : decode cX0_correlation 10 = .ok (.lastore, 1) := dk_80 (dk_at dksX0_correlation_0 10 rfl rfl)
theorem dX0_correlation_11 : decode cX0_correlation 11 = .ok (.goto 15, 3) := dk_167 0 15 (dk_at dksX0_correlation_0 11 rfl rfl)
theorem dX0_correlation_14 : decode cX0_correlation 14 = .ok (.astore 5, 2) := dk_58 5 (dk_at dksX0_correlation_0 14 rfl rfl)
theorem dX0_correlation_16 : decode cX0_correlation 16 = .ok (.iconst 1, 1) := dk_4 (dk_at dksX0_correlation_0 16 rfl rfl)
theorem dX0_correlation_17 : decode cX0_correlation 17 = .ok (.ireturn, 1) := dk_172 (dk_at dksX0_correlation_0 17 rfl rfl)
theorem dX0_correlation_18 : decode cX0_correlation 18 = .ok (.astore 5, 2) := dk_58 5 (dk_at dksX0_correlation_0 18 rfl rfl)
theorem dX0_correlation_20 : decode cX0_correlation 20 = .ok (.iconst 2, 1) := dk_5 (dk_at dksX0_correlation_0 20 rfl rfl)
theorem dX0_correlation_21 : decode cX0_correlation 21 = .ok (.ireturn, 1) := dk_172 (dk_at dksX0_correlation_0 21 rfl rfl)
theorem dX0_correlation_22 : decode cX0_correlation 22 = .ok (.astore 5, 2) := dk_58 5 (dk_at dksX0_correlation_0 22 rfl rfl)
theorem dX0_correlation_24 : decode cX0_correlation 24 = .ok (.iconst 3, 1) := dk_6 (dk_at dksX0_correlation_1 0 rfl rfl)
theorem dX0_correlation_25 : decode cX0_correlation 25 = .ok (.ireturn, 1) := dk_172 (dk_at dksX0_correlation_1 1 rfl rfl)
theorem dX0_correlation_26 : decode cX0_correlation 26 = .ok (.iconst 0, 1) := dk_3 (dk_at dksX0_correlation_1 2 rfl rfl)
theorem dX0_correlation_27 : decode cX0_correlation 27 = .ok (.ireturn, 1) := dk_172 (dk_at dksX0_correlation_1 3 rfl rfl)
abbrev cX0_bestLag : ByteArray := method_38_code
def yX0_bestLag : MethodName := ⟨RX0, "bestLag", "(LAcousticCamera;III[J)I"⟩
def dkwX0_bestLag_1 : List UInt8 := [58, 5, 6, 172, 3, 172]
abbrev dktX0_bestLag_1 : List UInt8 := dkwX0_bestLag_1 ++ []
def dkwX0_bestLag_0 : List UInt8 := [25, 4, 3, 42, 27, 28, 29, 182, 0, 131, 133, 80, 167, 0, 15, 58, 5, 4, 172, 58, 5, 5, 172]
abbrev dktX0_bestLag_0 : List UInt8 := dkwX0_bestLag_0 ++ dktX0_bestLag_1
theorem dksX0_bestLag_0 : cX0_bestLag.data.toList.drop 0 = dktX0_bestLag_0 := by decide +kernel
theorem dksX0_bestLag_1 : cX0_bestLag.data.toList.drop 23 = dktX0_bestLag_1 := dk_seg dksX0_bestLag_0 23 rfl rfl
theorem dX0_bestLag_0 : decode cX0_bestLag 0 = .ok (.aload 4, 2) := dk_25 4 (dk_at dksX0_bestLag_0 0 rfl rfl)
theorem dX0_bestLag_2 : decode cX0_bestLag 2 = .ok (.iconst 0, 1) := dk_3 (dk_at dksX0_bestLag_0 2 rfl rfl)
theorem dX0_bestLag_3 : decode cX0_bestLag 3 = .ok (.aload_n 0, 1) := dk_42 (dk_at dksX0_bestLag_0 3 rfl rfl)
theorem dX0_bestLag_4 : decode cX0_bestLag 4 = .ok (.iload_n 1, 1) := dk_27 (dk_at dksX0_bestLag_0 4 rfl rfl)
theorem dX0_bestLag_5 : decode cX0_bestLag 5 = .ok (.iload_n 2, 1) := dk_28 (dk_at dksX0_bestLag_0 5 rfl rfl)
theorem dX0_bestLag_6 : decode cX0_bestLag 6 = .ok (.iload_n 3, 1) := dk_29 (dk_at dksX0_bestLag_0 6 rfl rfl)
theorem dX0_bestLag_7 : decode cX0_bestLag 7 = .ok (.invokevirtual 131, 3) := dk_182 0 131 (dk_at dksX0_bestLag_0 7 rfl rfl)
theorem dX0_bestLag_10 : decode cX0_bestLag 10 = .ok (.i2l, 1) := dk_133 (dk_at dksX0_bestLag_0 10 rfl rfl)
theorem dX0_bestLag_11 : decode cX0_bestLag 11 = .ok (.lastore, 1) := dk_80 (dk_at dksX0_bestLag_0 11 rfl rfl)
theorem dX0_bestLag_12 : decode cX0_bestLag 12 = .ok (.goto 15, 3) := dk_167 0 15 (dk_at dksX0_bestLag_0 12 rfl rfl)
theorem dX0_bestLag_15 : decode cX0_bestLag 15 = .ok (.astore 5, 2) := dk_58 5 (dk_at dksX0_bestLag_0 15 rfl rfl)
theorem dX0_bestLag_17 : decode cX0_bestLag 17 = .ok (.iconst 1, 1) := dk_4 (dk_at dksX0_bestLag_0 17 rfl rfl)
theorem dX0_bestLag_18 : decode cX0_bestLag 18 = .ok (.ireturn, 1) := dk_172 (dk_at dksX0_bestLag_0 18 rfl rfl)
theorem dX0_bestLag_19 : decode cX0_bestLag 19 = .ok (.astore 5, 2) := dk_58 5 (dk_at dksX0_bestLag_0 19 rfl rfl)
theorem dX0_bestLag_21 : decode cX0_bestLag 21 = .ok (.iconst 2, 1) := dk_5 (dk_at dksX0_bestLag_0 21 rfl rfl)
theorem dX0_bestLag_22 : decode cX0_bestLag 22 = .ok (.ireturn, 1) := dk_172 (dk_at dksX0_bestLag_0 22 rfl rfl)
theorem dX0_bestLag_23 : decode cX0_bestLag 23 = .ok (.astore 5, 2) := dk_58 5 (dk_at dksX0_bestLag_1 0 rfl rfl)
theorem dX0_bestLag_25 : decode cX0_bestLag 25 = .ok (.iconst 3, 1) := dk_6 (dk_at dksX0_bestLag_1 2 rfl rfl)
theorem dX0_bestLag_26 : decode cX0_bestLag 26 = .ok (.ireturn, 1) := dk_172 (dk_at dksX0_bestLag_1 3 rfl rfl)
theorem dX0_bestLag_27 : decode cX0_bestLag 27 = .ok (.iconst 0, 1) := dk_3 (dk_at dksX0_bestLag_1 4 rfl rfl)
theorem dX0_bestLag_28 : decode cX0_bestLag 28 = .ok (.ireturn, 1) := dk_172 (dk_at dksX0_bestLag_1 5 rfl rfl)
abbrev cX0_level : ByteArray := method_39_code
def yX0_level : MethodName := ⟨RX0, "level", "(LAcousticCamera;I[J)I"⟩
def dkwX0_level_0 : List UInt8 := [44, 3, 42, 27, 182, 0, 134, 80, 167, 0, 9, 78, 4, 172, 78, 5, 172, 3, 172]
abbrev dktX0_level_0 : List UInt8 := dkwX0_level_0 ++ []
theorem dksX0_level_0 : cX0_level.data.toList.drop 0 = dktX0_level_0 := by decide +kernel
theorem dX0_level_0 : decode cX0_level 0 = .ok (.aload_n 2, 1) := dk_44 (dk_at dksX0_level_0 0 rfl rfl)
theorem dX0_level_1 : decode cX0_level 1 = .ok (.iconst 0, 1) := dk_3 (dk_at dksX0_level_0 1 rfl rfl)
theorem dX0_level_2 : decode cX0_level 2 = .ok (.aload_n 0, 1) := dk_42 (dk_at dksX0_level_0 2 rfl rfl)
theorem dX0_level_3 : decode cX0_level 3 = .ok (.iload_n 1, 1) := dk_27 (dk_at dksX0_level_0 3 rfl rfl)
theorem dX0_level_4 : decode cX0_level 4 = .ok (.invokevirtual 134, 3) := dk_182 0 134 (dk_at dksX0_level_0 4 rfl rfl)
theorem dX0_level_7 : decode cX0_level 7 = .ok (.lastore, 1) := dk_80 (dk_at dksX0_level_0 7 rfl rfl)
theorem dX0_level_8 : decode cX0_level 8 = .ok (.goto 9, 3) := dk_167 0 9 (dk_at dksX0_level_0 8 rfl rfl)
theorem dX0_level_11 : decode cX0_level 11 = .ok (.astore_n 3, 1) := dk_78 (dk_at dksX0_level_0 11 rfl rfl)
theorem dX0_level_12 : decode cX0_level 12 = .ok (.iconst 1, 1) := dk_4 (dk_at dksX0_level_0 12 rfl rfl)
theorem dX0_level_13 : decode cX0_level 13 = .ok (.ireturn, 1) := dk_172 (dk_at dksX0_level_0 13 rfl rfl)
theorem dX0_level_14 : decode cX0_level 14 = .ok (.astore_n 3, 1) := dk_78 (dk_at dksX0_level_0 14 rfl rfl)
theorem dX0_level_15 : decode cX0_level 15 = .ok (.iconst 2, 1) := dk_5 (dk_at dksX0_level_0 15 rfl rfl)
theorem dX0_level_16 : decode cX0_level 16 = .ok (.ireturn, 1) := dk_172 (dk_at dksX0_level_0 16 rfl rfl)
theorem dX0_level_17 : decode cX0_level 17 = .ok (.iconst 0, 1) := dk_3 (dk_at dksX0_level_0 17 rfl rfl)
theorem dX0_level_18 : decode cX0_level 18 = .ok (.ireturn, 1) := dk_172 (dk_at dksX0_level_0 18 rfl rfl)
abbrev cX0_loudest : ByteArray := method_40_code
def yX0_loudest : MethodName := ⟨RX0, "loudest", "(LAcousticCamera;I[J)I"⟩
def dkwX0_loudest_0 : List UInt8 := [44, 3, 42, 27, 182, 0, 137, 133, 80, 167, 0, 9, 78, 4, 172, 78, 5, 172, 3, 172]
abbrev dktX0_loudest_0 : List UInt8 := dkwX0_loudest_0 ++ []
theorem dksX0_loudest_0 : cX0_loudest.data.toList.drop 0 = dktX0_loudest_0 := by decide +kernel
theorem dX0_loudest_0 : decode cX0_loudest 0 = .ok (.aload_n 2, 1) := dk_44 (dk_at dksX0_loudest_0 0 rfl rfl)
theorem dX0_loudest_1 : decode cX0_loudest 1 = .ok (.iconst 0, 1) := dk_3 (dk_at dksX0_loudest_0 1 rfl rfl)
theorem dX0_loudest_2 : decode cX0_loudest 2 = .ok (.aload_n 0, 1) := dk_42 (dk_at dksX0_loudest_0 2 rfl rfl)
theorem dX0_loudest_3 : decode cX0_loudest 3 = .ok (.iload_n 1, 1) := dk_27 (dk_at dksX0_loudest_0 3 rfl rfl)
theorem dX0_loudest_4 : decode cX0_loudest 4 = .ok (.invokevirtual 137, 3) := dk_182 0 137 (dk_at dksX0_loudest_0 4 rfl rfl)
theorem dX0_loudest_7 : decode cX0_loudest 7 = .ok (.i2l, 1) := dk_133 (dk_at dksX0_loudest_0 7 rfl rfl)
theorem dX0_loudest_8 : decode cX0_loudest 8 = .ok (.lastore, 1) := dk_80 (dk_at dksX0_loudest_0 8 rfl rfl)
theorem dX0_loudest_9 : decode cX0_loudest 9 = .ok (.goto 9, 3) := dk_167 0 9 (dk_at dksX0_loudest_0 9 rfl rfl)
theorem dX0_loudest_12 : decode cX0_loudest 12 = .ok (.astore_n 3, 1) := dk_78 (dk_at dksX0_loudest_0 12 rfl rfl)
theorem dX0_loudest_13 : decode cX0_loudest 13 = .ok (.iconst 1, 1) := dk_4 (dk_at dksX0_loudest_0 13 rfl rfl)
theorem dX0_loudest_14 : decode cX0_loudest 14 = .ok (.ireturn, 1) := dk_172 (dk_at dksX0_loudest_0 14 rfl rfl)
theorem dX0_loudest_15 : decode cX0_loudest 15 = .ok (.astore_n 3, 1) := dk_78 (dk_at dksX0_loudest_0 15 rfl rfl)
theorem dX0_loudest_16 : decode cX0_loudest 16 = .ok (.iconst 2, 1) := dk_5 (dk_at dksX0_loudest_0 16 rfl rfl)
theorem dX0_loudest_17 : decode cX0_loudest 17 = .ok (.ireturn, 1) := dk_172 (dk_at dksX0_loudest_0 17 rfl rfl)
theorem dX0_loudest_18 : decode cX0_loudest 18 = .ok (.iconst 0, 1) := dk_3 (dk_at dksX0_loudest_0 18 rfl rfl)
theorem dX0_loudest_19 : decode cX0_loudest 19 = .ok (.ireturn, 1) := dk_172 (dk_at dksX0_loudest_0 19 rfl rfl)
abbrev cX0_writeMap : ByteArray := method_41_code
def yX0_writeMap : MethodName := ⟨RX0, "writeMap", "(LAcousticCamera;[J)I"⟩
def dkwX0_writeMap_0 : List UInt8 := [43, 3, 42, 182, 0, 140, 133, 80, 167, 0, 6, 77, 4, 172, 3, 172]
abbrev dktX0_writeMap_0 : List UInt8 := dkwX0_writeMap_0 ++ []
theorem dksX0_writeMap_0 : cX0_writeMap.data.toList.drop 0 = dktX0_writeMap_0 := by decide +kernel
theorem dX0_writeMap_0 : decode cX0_writeMap 0 = .ok (.aload_n 1, 1) := dk_43 (dk_at dksX0_writeMap_0 0 rfl rfl)
theorem dX0_writeMap_1 : decode cX0_writeMap 1 = .ok (.iconst 0, 1) := dk_3 (dk_at dksX0_writeMap_0 1 rfl rfl)
theorem dX0_writeMap_2 : decode cX0_writeMap 2 = .ok (.aload_n 0, 1) := dk_42 (dk_at dksX0_writeMap_0 2 rfl rfl)
theorem dX0_writeMap_3 : decode cX0_writeMap 3 = .ok (.invokevirtual 140, 3) := dk_182 0 140 (dk_at dksX0_writeMap_0 3 rfl rfl)
theorem dX0_writeMap_6 : decode cX0_writeMap 6 = .ok (.i2l, 1) := dk_133 (dk_at dksX0_writeMap_0 6 rfl rfl)
theorem dX0_writeMap_7 : decode cX0_writeMap 7 = .ok (.lastore, 1) := dk_80 (dk_at dksX0_writeMap_0 7 rfl rfl)
theorem dX0_writeMap_8 : decode cX0_writeMap 8 = .ok (.goto 6, 3) := dk_167 0 6 (dk_at dksX0_writeMap_0 8 rfl rfl)
theorem dX0_writeMap_11 : decode cX0_writeMap 11 = .ok (.astore_n 2, 1) := dk_77 (dk_at dksX0_writeMap_0 11 rfl rfl)
theorem dX0_writeMap_12 : decode cX0_writeMap 12 = .ok (.iconst 1, 1) := dk_4 (dk_at dksX0_writeMap_0 12 rfl rfl)
theorem dX0_writeMap_13 : decode cX0_writeMap 13 = .ok (.ireturn, 1) := dk_172 (dk_at dksX0_writeMap_0 13 rfl rfl)
theorem dX0_writeMap_14 : decode cX0_writeMap 14 = .ok (.iconst 0, 1) := dk_3 (dk_at dksX0_writeMap_0 14 rfl rfl)
theorem dX0_writeMap_15 : decode cX0_writeMap 15 = .ok (.ireturn, 1) := dk_172 (dk_at dksX0_writeMap_0 15 rfl rfl)
abbrev cX0_mapByte : ByteArray := method_42_code
def yX0_mapByte : MethodName := ⟨RX0, "mapByte", "(LAcousticCamera;I[J)I"⟩
def dkwX0_mapByte_0 : List UInt8 := [44, 3, 42, 27, 182, 0, 143, 133, 80, 167, 0, 6, 78, 4, 172, 3, 172]
abbrev dktX0_mapByte_0 : List UInt8 := dkwX0_mapByte_0 ++ []
theorem dksX0_mapByte_0 : cX0_mapByte.data.toList.drop 0 = dktX0_mapByte_0 := by decide +kernel
theorem dX0_mapByte_0 : decode cX0_mapByte 0 = .ok (.aload_n 2, 1) := dk_44 (dk_at dksX0_mapByte_0 0 rfl rfl)
theorem dX0_mapByte_1 : decode cX0_mapByte 1 = .ok (.iconst 0, 1) := dk_3 (dk_at dksX0_mapByte_0 1 rfl rfl)
theorem dX0_mapByte_2 : decode cX0_mapByte 2 = .ok (.aload_n 0, 1) := dk_42 (dk_at dksX0_mapByte_0 2 rfl rfl)
theorem dX0_mapByte_3 : decode cX0_mapByte 3 = .ok (.iload_n 1, 1) := dk_27 (dk_at dksX0_mapByte_0 3 rfl rfl)
theorem dX0_mapByte_4 : decode cX0_mapByte 4 = .ok (.invokevirtual 143, 3) := dk_182 0 143 (dk_at dksX0_mapByte_0 4 rfl rfl)
theorem dX0_mapByte_7 : decode cX0_mapByte 7 = .ok (.i2l, 1) := dk_133 (dk_at dksX0_mapByte_0 7 rfl rfl)
theorem dX0_mapByte_8 : decode cX0_mapByte 8 = .ok (.lastore, 1) := dk_80 (dk_at dksX0_mapByte_0 8 rfl rfl)
theorem dX0_mapByte_9 : decode cX0_mapByte 9 = .ok (.goto 6, 3) := dk_167 0 6 (dk_at dksX0_mapByte_0 9 rfl rfl)
theorem dX0_mapByte_12 : decode cX0_mapByte 12 = .ok (.astore_n 3, 1) := dk_78 (dk_at dksX0_mapByte_0 12 rfl rfl)
theorem dX0_mapByte_13 : decode cX0_mapByte 13 = .ok (.iconst 1, 1) := dk_4 (dk_at dksX0_mapByte_0 13 rfl rfl)
theorem dX0_mapByte_14 : decode cX0_mapByte 14 = .ok (.ireturn, 1) := dk_172 (dk_at dksX0_mapByte_0 14 rfl rfl)
theorem dX0_mapByte_15 : decode cX0_mapByte 15 = .ok (.iconst 0, 1) := dk_3 (dk_at dksX0_mapByte_0 15 rfl rfl)
theorem dX0_mapByte_16 : decode cX0_mapByte 16 = .ok (.ireturn, 1) := dk_172 (dk_at dksX0_mapByte_0 16 rfl rfl)
abbrev cX0_pointBest : ByteArray := method_43_code
def yX0_pointBest : MethodName := ⟨RX0, "pointBest", "(LAcousticCamera;II[J)I"⟩
def dkwX0_pointBest_1 : List UInt8 := [172, 3, 172]
abbrev dktX0_pointBest_1 : List UInt8 := dkwX0_pointBest_1 ++ []
def dkwX0_pointBest_0 : List UInt8 := [45, 3, 42, 27, 28, 182, 0, 146, 133, 80, 167, 0, 15, 58, 4, 4, 172, 58, 4, 5, 172, 58, 4, 6]
abbrev dktX0_pointBest_0 : List UInt8 := dkwX0_pointBest_0 ++ dktX0_pointBest_1
theorem dksX0_pointBest_0 : cX0_pointBest.data.toList.drop 0 = dktX0_pointBest_0 := by decide +kernel
theorem dksX0_pointBest_1 : cX0_pointBest.data.toList.drop 24 = dktX0_pointBest_1 := dk_seg dksX0_pointBest_0 24 rfl rfl
theorem dX0_pointBest_0 : decode cX0_pointBest 0 = .ok (.aload_n 3, 1) := dk_45 (dk_at dksX0_pointBest_0 0 rfl rfl)
theorem dX0_pointBest_1 : decode cX0_pointBest 1 = .ok (.iconst 0, 1) := dk_3 (dk_at dksX0_pointBest_0 1 rfl rfl)
theorem dX0_pointBest_2 : decode cX0_pointBest 2 = .ok (.aload_n 0, 1) := dk_42 (dk_at dksX0_pointBest_0 2 rfl rfl)
theorem dX0_pointBest_3 : decode cX0_pointBest 3 = .ok (.iload_n 1, 1) := dk_27 (dk_at dksX0_pointBest_0 3 rfl rfl)
theorem dX0_pointBest_4 : decode cX0_pointBest 4 = .ok (.iload_n 2, 1) := dk_28 (dk_at dksX0_pointBest_0 4 rfl rfl)
theorem dX0_pointBest_5 : decode cX0_pointBest 5 = .ok (.invokevirtual 146, 3) := dk_182 0 146 (dk_at dksX0_pointBest_0 5 rfl rfl)
theorem dX0_pointBest_8 : decode cX0_pointBest 8 = .ok (.i2l, 1) := dk_133 (dk_at dksX0_pointBest_0 8 rfl rfl)
theorem dX0_pointBest_9 : decode cX0_pointBest 9 = .ok (.lastore, 1) := dk_80 (dk_at dksX0_pointBest_0 9 rfl rfl)
theorem dX0_pointBest_10 : decode cX0_pointBest 10 = .ok (.goto 15, 3) := dk_167 0 15 (dk_at dksX0_pointBest_0 10 rfl rfl)
theorem dX0_pointBest_13 : decode cX0_pointBest 13 = .ok (.astore 4, 2) := dk_58 4 (dk_at dksX0_pointBest_0 13 rfl rfl)
theorem dX0_pointBest_15 : decode cX0_pointBest 15 = .ok (.iconst 1, 1) := dk_4 (dk_at dksX0_pointBest_0 15 rfl rfl)
theorem dX0_pointBest_16 : decode cX0_pointBest 16 = .ok (.ireturn, 1) := dk_172 (dk_at dksX0_pointBest_0 16 rfl rfl)
theorem dX0_pointBest_17 : decode cX0_pointBest 17 = .ok (.astore 4, 2) := dk_58 4 (dk_at dksX0_pointBest_0 17 rfl rfl)
theorem dX0_pointBest_19 : decode cX0_pointBest 19 = .ok (.iconst 2, 1) := dk_5 (dk_at dksX0_pointBest_0 19 rfl rfl)
theorem dX0_pointBest_20 : decode cX0_pointBest 20 = .ok (.ireturn, 1) := dk_172 (dk_at dksX0_pointBest_0 20 rfl rfl)
theorem dX0_pointBest_21 : decode cX0_pointBest 21 = .ok (.astore 4, 2) := dk_58 4 (dk_at dksX0_pointBest_0 21 rfl rfl)
theorem dX0_pointBest_23 : decode cX0_pointBest 23 = .ok (.iconst 3, 1) := dk_6 (dk_at dksX0_pointBest_0 23 rfl rfl)
theorem dX0_pointBest_24 : decode cX0_pointBest 24 = .ok (.ireturn, 1) := dk_172 (dk_at dksX0_pointBest_1 0 rfl rfl)
theorem dX0_pointBest_25 : decode cX0_pointBest 25 = .ok (.iconst 0, 1) := dk_3 (dk_at dksX0_pointBest_1 1 rfl rfl)
theorem dX0_pointBest_26 : decode cX0_pointBest 26 = .ok (.ireturn, 1) := dk_172 (dk_at dksX0_pointBest_1 2 rfl rfl)
abbrev cX0_pointPower : ByteArray := method_44_code
def yX0_pointPower : MethodName := ⟨RX0, "pointPower", "(LAcousticCamera;III[J)I"⟩
def dkwX0_pointPower_1 : List UInt8 := [6, 172, 3, 172]
abbrev dktX0_pointPower_1 : List UInt8 := dkwX0_pointPower_1 ++ []
def dkwX0_pointPower_0 : List UInt8 := [25, 4, 3, 42, 27, 28, 29, 182, 0, 149, 80, 167, 0, 15, 58, 5, 4, 172, 58, 5, 5, 172, 58, 5]
abbrev dktX0_pointPower_0 : List UInt8 := dkwX0_pointPower_0 ++ dktX0_pointPower_1
theorem dksX0_pointPower_0 : cX0_pointPower.data.toList.drop 0 = dktX0_pointPower_0 := by decide +kernel
theorem dksX0_pointPower_1 : cX0_pointPower.data.toList.drop 24 = dktX0_pointPower_1 := dk_seg dksX0_pointPower_0 24 rfl rfl
theorem dX0_pointPower_0 : decode cX0_pointPower 0 = .ok (.aload 4, 2) := dk_25 4 (dk_at dksX0_pointPower_0 0 rfl rfl)
theorem dX0_pointPower_2 : decode cX0_pointPower 2 = .ok (.iconst 0, 1) := dk_3 (dk_at dksX0_pointPower_0 2 rfl rfl)
theorem dX0_pointPower_3 : decode cX0_pointPower 3 = .ok (.aload_n 0, 1) := dk_42 (dk_at dksX0_pointPower_0 3 rfl rfl)
theorem dX0_pointPower_4 : decode cX0_pointPower 4 = .ok (.iload_n 1, 1) := dk_27 (dk_at dksX0_pointPower_0 4 rfl rfl)
theorem dX0_pointPower_5 : decode cX0_pointPower 5 = .ok (.iload_n 2, 1) := dk_28 (dk_at dksX0_pointPower_0 5 rfl rfl)
theorem dX0_pointPower_6 : decode cX0_pointPower 6 = .ok (.iload_n 3, 1) := dk_29 (dk_at dksX0_pointPower_0 6 rfl rfl)
theorem dX0_pointPower_7 : decode cX0_pointPower 7 = .ok (.invokevirtual 149, 3) := dk_182 0 149 (dk_at dksX0_pointPower_0 7 rfl rfl)
theorem dX0_pointPower_10 : decode cX0_pointPower 10 = .ok (.lastore, 1) := dk_80 (dk_at dksX0_pointPower_0 10 rfl rfl)
theorem dX0_pointPower_11 : decode cX0_pointPower 11 = .ok (.goto 15, 3) := dk_167 0 15 (dk_at dksX0_pointPower_0 11 rfl rfl)
theorem dX0_pointPower_14 : decode cX0_pointPower 14 = .ok (.astore 5, 2) := dk_58 5 (dk_at dksX0_pointPower_0 14 rfl rfl)
theorem dX0_pointPower_16 : decode cX0_pointPower 16 = .ok (.iconst 1, 1) := dk_4 (dk_at dksX0_pointPower_0 16 rfl rfl)
theorem dX0_pointPower_17 : decode cX0_pointPower 17 = .ok (.ireturn, 1) := dk_172 (dk_at dksX0_pointPower_0 17 rfl rfl)
theorem dX0_pointPower_18 : decode cX0_pointPower 18 = .ok (.astore 5, 2) := dk_58 5 (dk_at dksX0_pointPower_0 18 rfl rfl)
theorem dX0_pointPower_20 : decode cX0_pointPower 20 = .ok (.iconst 2, 1) := dk_5 (dk_at dksX0_pointPower_0 20 rfl rfl)
theorem dX0_pointPower_21 : decode cX0_pointPower 21 = .ok (.ireturn, 1) := dk_172 (dk_at dksX0_pointPower_0 21 rfl rfl)
theorem dX0_pointPower_22 : decode cX0_pointPower 22 = .ok (.astore 5, 2) := dk_58 5 (dk_at dksX0_pointPower_0 22 rfl rfl)
theorem dX0_pointPower_24 : decode cX0_pointPower 24 = .ok (.iconst 3, 1) := dk_6 (dk_at dksX0_pointPower_1 0 rfl rfl)
theorem dX0_pointPower_25 : decode cX0_pointPower 25 = .ok (.ireturn, 1) := dk_172 (dk_at dksX0_pointPower_1 1 rfl rfl)
theorem dX0_pointPower_26 : decode cX0_pointPower 26 = .ok (.iconst 0, 1) := dk_3 (dk_at dksX0_pointPower_1 2 rfl rfl)
theorem dX0_pointPower_27 : decode cX0_pointPower 27 = .ok (.ireturn, 1) := dk_172 (dk_at dksX0_pointPower_1 3 rfl rfl)
abbrev cX0_bestWithout : ByteArray := method_45_code
def yX0_bestWithout : MethodName := ⟨RX0, "bestWithout", "(LAcousticCamera;I[J)I"⟩
def dkwX0_bestWithout_0 : List UInt8 := [44, 3, 42, 27, 182, 0, 152, 133, 80, 167, 0, 9, 78, 4, 172, 78, 5, 172, 3, 172]
abbrev dktX0_bestWithout_0 : List UInt8 := dkwX0_bestWithout_0 ++ []
theorem dksX0_bestWithout_0 : cX0_bestWithout.data.toList.drop 0 = dktX0_bestWithout_0 := by decide +kernel
theorem dX0_bestWithout_0 : decode cX0_bestWithout 0 = .ok (.aload_n 2, 1) := dk_44 (dk_at dksX0_bestWithout_0 0 rfl rfl)
theorem dX0_bestWithout_1 : decode cX0_bestWithout 1 = .ok (.iconst 0, 1) := dk_3 (dk_at dksX0_bestWithout_0 1 rfl rfl)
theorem dX0_bestWithout_2 : decode cX0_bestWithout 2 = .ok (.aload_n 0, 1) := dk_42 (dk_at dksX0_bestWithout_0 2 rfl rfl)
theorem dX0_bestWithout_3 : decode cX0_bestWithout 3 = .ok (.iload_n 1, 1) := dk_27 (dk_at dksX0_bestWithout_0 3 rfl rfl)
theorem dX0_bestWithout_4 : decode cX0_bestWithout 4 = .ok (.invokevirtual 152, 3) := dk_182 0 152 (dk_at dksX0_bestWithout_0 4 rfl rfl)
theorem dX0_bestWithout_7 : decode cX0_bestWithout 7 = .ok (.i2l, 1) := dk_133 (dk_at dksX0_bestWithout_0 7 rfl rfl)
theorem dX0_bestWithout_8 : decode cX0_bestWithout 8 = .ok (.lastore, 1) := dk_80 (dk_at dksX0_bestWithout_0 8 rfl rfl)
theorem dX0_bestWithout_9 : decode cX0_bestWithout 9 = .ok (.goto 9, 3) := dk_167 0 9 (dk_at dksX0_bestWithout_0 9 rfl rfl)
theorem dX0_bestWithout_12 : decode cX0_bestWithout 12 = .ok (.astore_n 3, 1) := dk_78 (dk_at dksX0_bestWithout_0 12 rfl rfl)
theorem dX0_bestWithout_13 : decode cX0_bestWithout 13 = .ok (.iconst 1, 1) := dk_4 (dk_at dksX0_bestWithout_0 13 rfl rfl)
theorem dX0_bestWithout_14 : decode cX0_bestWithout 14 = .ok (.ireturn, 1) := dk_172 (dk_at dksX0_bestWithout_0 14 rfl rfl)
theorem dX0_bestWithout_15 : decode cX0_bestWithout 15 = .ok (.astore_n 3, 1) := dk_78 (dk_at dksX0_bestWithout_0 15 rfl rfl)
theorem dX0_bestWithout_16 : decode cX0_bestWithout 16 = .ok (.iconst 2, 1) := dk_5 (dk_at dksX0_bestWithout_0 16 rfl rfl)
theorem dX0_bestWithout_17 : decode cX0_bestWithout 17 = .ok (.ireturn, 1) := dk_172 (dk_at dksX0_bestWithout_0 17 rfl rfl)
theorem dX0_bestWithout_18 : decode cX0_bestWithout 18 = .ok (.iconst 0, 1) := dk_3 (dk_at dksX0_bestWithout_0 18 rfl rfl)
theorem dX0_bestWithout_19 : decode cX0_bestWithout 19 = .ok (.ireturn, 1) := dk_172 (dk_at dksX0_bestWithout_0 19 rfl rfl)
abbrev cX0_bestIfOff : ByteArray := method_46_code
def yX0_bestIfOff : MethodName := ⟨RX0, "bestIfOff", "(LAcousticCamera;I[J)I"⟩
def dkwX0_bestIfOff_0 : List UInt8 := [44, 3, 42, 27, 182, 0, 155, 133, 80, 167, 0, 9, 78, 4, 172, 78, 5, 172, 3, 172]
abbrev dktX0_bestIfOff_0 : List UInt8 := dkwX0_bestIfOff_0 ++ []
theorem dksX0_bestIfOff_0 : cX0_bestIfOff.data.toList.drop 0 = dktX0_bestIfOff_0 := by decide +kernel
theorem dX0_bestIfOff_0 : decode cX0_bestIfOff 0 = .ok (.aload_n 2, 1) := dk_44 (dk_at dksX0_bestIfOff_0 0 rfl rfl)
theorem dX0_bestIfOff_1 : decode cX0_bestIfOff 1 = .ok (.iconst 0, 1) := dk_3 (dk_at dksX0_bestIfOff_0 1 rfl rfl)
theorem dX0_bestIfOff_2 : decode cX0_bestIfOff 2 = .ok (.aload_n 0, 1) := dk_42 (dk_at dksX0_bestIfOff_0 2 rfl rfl)
theorem dX0_bestIfOff_3 : decode cX0_bestIfOff 3 = .ok (.iload_n 1, 1) := dk_27 (dk_at dksX0_bestIfOff_0 3 rfl rfl)
theorem dX0_bestIfOff_4 : decode cX0_bestIfOff 4 = .ok (.invokevirtual 155, 3) := dk_182 0 155 (dk_at dksX0_bestIfOff_0 4 rfl rfl)
theorem dX0_bestIfOff_7 : decode cX0_bestIfOff 7 = .ok (.i2l, 1) := dk_133 (dk_at dksX0_bestIfOff_0 7 rfl rfl)
theorem dX0_bestIfOff_8 : decode cX0_bestIfOff 8 = .ok (.lastore, 1) := dk_80 (dk_at dksX0_bestIfOff_0 8 rfl rfl)
theorem dX0_bestIfOff_9 : decode cX0_bestIfOff 9 = .ok (.goto 9, 3) := dk_167 0 9 (dk_at dksX0_bestIfOff_0 9 rfl rfl)
theorem dX0_bestIfOff_12 : decode cX0_bestIfOff 12 = .ok (.astore_n 3, 1) := dk_78 (dk_at dksX0_bestIfOff_0 12 rfl rfl)
theorem dX0_bestIfOff_13 : decode cX0_bestIfOff 13 = .ok (.iconst 1, 1) := dk_4 (dk_at dksX0_bestIfOff_0 13 rfl rfl)
theorem dX0_bestIfOff_14 : decode cX0_bestIfOff 14 = .ok (.ireturn, 1) := dk_172 (dk_at dksX0_bestIfOff_0 14 rfl rfl)
theorem dX0_bestIfOff_15 : decode cX0_bestIfOff 15 = .ok (.astore_n 3, 1) := dk_78 (dk_at dksX0_bestIfOff_0 15 rfl rfl)
theorem dX0_bestIfOff_16 : decode cX0_bestIfOff 16 = .ok (.iconst 2, 1) := dk_5 (dk_at dksX0_bestIfOff_0 16 rfl rfl)
theorem dX0_bestIfOff_17 : decode cX0_bestIfOff 17 = .ok (.ireturn, 1) := dk_172 (dk_at dksX0_bestIfOff_0 17 rfl rfl)
theorem dX0_bestIfOff_18 : decode cX0_bestIfOff 18 = .ok (.iconst 0, 1) := dk_3 (dk_at dksX0_bestIfOff_0 18 rfl rfl)
theorem dX0_bestIfOff_19 : decode cX0_bestIfOff 19 = .ok (.ireturn, 1) := dk_172 (dk_at dksX0_bestIfOff_0 19 rfl rfl)
abbrev cX0_mute : ByteArray := method_47_code
def yX0_mute : MethodName := ⟨RX0, "mute", "(LAcousticCamera;IZ[J)I"⟩
def dkwX0_mute_1 : List UInt8 := [58, 4, 5, 172, 3, 172]
abbrev dktX0_mute_1 : List UInt8 := dkwX0_mute_1 ++ []
def dkwX0_mute_0 : List UInt8 := [45, 3, 42, 27, 28, 182, 0, 158, 153, 0, 7, 10, 167, 0, 4, 9, 80, 167, 0, 11, 58, 4, 4, 172]
abbrev dktX0_mute_0 : List UInt8 := dkwX0_mute_0 ++ dktX0_mute_1
theorem dksX0_mute_0 : cX0_mute.data.toList.drop 0 = dktX0_mute_0 := by decide +kernel
theorem dksX0_mute_1 : cX0_mute.data.toList.drop 24 = dktX0_mute_1 := dk_seg dksX0_mute_0 24 rfl rfl
theorem dX0_mute_0 : decode cX0_mute 0 = .ok (.aload_n 3, 1) := dk_45 (dk_at dksX0_mute_0 0 rfl rfl)
theorem dX0_mute_1 : decode cX0_mute 1 = .ok (.iconst 0, 1) := dk_3 (dk_at dksX0_mute_0 1 rfl rfl)
theorem dX0_mute_2 : decode cX0_mute 2 = .ok (.aload_n 0, 1) := dk_42 (dk_at dksX0_mute_0 2 rfl rfl)
theorem dX0_mute_3 : decode cX0_mute 3 = .ok (.iload_n 1, 1) := dk_27 (dk_at dksX0_mute_0 3 rfl rfl)
theorem dX0_mute_4 : decode cX0_mute 4 = .ok (.iload_n 2, 1) := dk_28 (dk_at dksX0_mute_0 4 rfl rfl)
theorem dX0_mute_5 : decode cX0_mute 5 = .ok (.invokevirtual 158, 3) := dk_182 0 158 (dk_at dksX0_mute_0 5 rfl rfl)
theorem dX0_mute_8 : decode cX0_mute 8 = .ok (.ifCond .eq 7, 3) := dk_153 0 7 (dk_at dksX0_mute_0 8 rfl rfl)
theorem dX0_mute_11 : decode cX0_mute 11 = .ok (.lconst 1, 1) := dk_10 (dk_at dksX0_mute_0 11 rfl rfl)
theorem dX0_mute_12 : decode cX0_mute 12 = .ok (.goto 4, 3) := dk_167 0 4 (dk_at dksX0_mute_0 12 rfl rfl)
theorem dX0_mute_15 : decode cX0_mute 15 = .ok (.lconst 0, 1) := dk_9 (dk_at dksX0_mute_0 15 rfl rfl)
theorem dX0_mute_16 : decode cX0_mute 16 = .ok (.lastore, 1) := dk_80 (dk_at dksX0_mute_0 16 rfl rfl)
theorem dX0_mute_17 : decode cX0_mute 17 = .ok (.goto 11, 3) := dk_167 0 11 (dk_at dksX0_mute_0 17 rfl rfl)
theorem dX0_mute_20 : decode cX0_mute 20 = .ok (.astore 4, 2) := dk_58 4 (dk_at dksX0_mute_0 20 rfl rfl)
theorem dX0_mute_22 : decode cX0_mute 22 = .ok (.iconst 1, 1) := dk_4 (dk_at dksX0_mute_0 22 rfl rfl)
theorem dX0_mute_23 : decode cX0_mute 23 = .ok (.ireturn, 1) := dk_172 (dk_at dksX0_mute_0 23 rfl rfl)
theorem dX0_mute_24 : decode cX0_mute 24 = .ok (.astore 4, 2) := dk_58 4 (dk_at dksX0_mute_1 0 rfl rfl)
theorem dX0_mute_26 : decode cX0_mute 26 = .ok (.iconst 2, 1) := dk_5 (dk_at dksX0_mute_1 2 rfl rfl)
theorem dX0_mute_27 : decode cX0_mute 27 = .ok (.ireturn, 1) := dk_172 (dk_at dksX0_mute_1 3 rfl rfl)
theorem dX0_mute_28 : decode cX0_mute 28 = .ok (.iconst 0, 1) := dk_3 (dk_at dksX0_mute_1 4 rfl rfl)
theorem dX0_mute_29 : decode cX0_mute 29 = .ok (.ireturn, 1) := dk_172 (dk_at dksX0_mute_1 5 rfl rfl)
abbrev cX0_setWeight : ByteArray := method_48_code
def yX0_setWeight : MethodName := ⟨RX0, "setWeight", "(LAcousticCamera;II[J)I"⟩
def dkwX0_setWeight_1 : List UInt8 := [172, 3, 172]
abbrev dktX0_setWeight_1 : List UInt8 := dkwX0_setWeight_1 ++ []
def dkwX0_setWeight_0 : List UInt8 := [45, 3, 42, 27, 28, 182, 0, 162, 133, 80, 167, 0, 15, 58, 4, 4, 172, 58, 4, 5, 172, 58, 4, 6]
abbrev dktX0_setWeight_0 : List UInt8 := dkwX0_setWeight_0 ++ dktX0_setWeight_1
theorem dksX0_setWeight_0 : cX0_setWeight.data.toList.drop 0 = dktX0_setWeight_0 := by decide +kernel
theorem dksX0_setWeight_1 : cX0_setWeight.data.toList.drop 24 = dktX0_setWeight_1 := dk_seg dksX0_setWeight_0 24 rfl rfl
theorem dX0_setWeight_0 : decode cX0_setWeight 0 = .ok (.aload_n 3, 1) := dk_45 (dk_at dksX0_setWeight_0 0 rfl rfl)
theorem dX0_setWeight_1 : decode cX0_setWeight 1 = .ok (.iconst 0, 1) := dk_3 (dk_at dksX0_setWeight_0 1 rfl rfl)
theorem dX0_setWeight_2 : decode cX0_setWeight 2 = .ok (.aload_n 0, 1) := dk_42 (dk_at dksX0_setWeight_0 2 rfl rfl)
theorem dX0_setWeight_3 : decode cX0_setWeight 3 = .ok (.iload_n 1, 1) := dk_27 (dk_at dksX0_setWeight_0 3 rfl rfl)
theorem dX0_setWeight_4 : decode cX0_setWeight 4 = .ok (.iload_n 2, 1) := dk_28 (dk_at dksX0_setWeight_0 4 rfl rfl)
theorem dX0_setWeight_5 : decode cX0_setWeight 5 = .ok (.invokevirtual 162, 3) := dk_182 0 162 (dk_at dksX0_setWeight_0 5 rfl rfl)
theorem dX0_setWeight_8 : decode cX0_setWeight 8 = .ok (.i2l, 1) := dk_133 (dk_at dksX0_setWeight_0 8 rfl rfl)
theorem dX0_setWeight_9 : decode cX0_setWeight 9 = .ok (.lastore, 1) := dk_80 (dk_at dksX0_setWeight_0 9 rfl rfl)
theorem dX0_setWeight_10 : decode cX0_setWeight 10 = .ok (.goto 15, 3) := dk_167 0 15 (dk_at dksX0_setWeight_0 10 rfl rfl)
theorem dX0_setWeight_13 : decode cX0_setWeight 13 = .ok (.astore 4, 2) := dk_58 4 (dk_at dksX0_setWeight_0 13 rfl rfl)
theorem dX0_setWeight_15 : decode cX0_setWeight 15 = .ok (.iconst 1, 1) := dk_4 (dk_at dksX0_setWeight_0 15 rfl rfl)
theorem dX0_setWeight_16 : decode cX0_setWeight 16 = .ok (.ireturn, 1) := dk_172 (dk_at dksX0_setWeight_0 16 rfl rfl)
theorem dX0_setWeight_17 : decode cX0_setWeight 17 = .ok (.astore 4, 2) := dk_58 4 (dk_at dksX0_setWeight_0 17 rfl rfl)
theorem dX0_setWeight_19 : decode cX0_setWeight 19 = .ok (.iconst 2, 1) := dk_5 (dk_at dksX0_setWeight_0 19 rfl rfl)
theorem dX0_setWeight_20 : decode cX0_setWeight 20 = .ok (.ireturn, 1) := dk_172 (dk_at dksX0_setWeight_0 20 rfl rfl)
theorem dX0_setWeight_21 : decode cX0_setWeight 21 = .ok (.astore 4, 2) := dk_58 4 (dk_at dksX0_setWeight_0 21 rfl rfl)
theorem dX0_setWeight_23 : decode cX0_setWeight 23 = .ok (.iconst 3, 1) := dk_6 (dk_at dksX0_setWeight_0 23 rfl rfl)
theorem dX0_setWeight_24 : decode cX0_setWeight 24 = .ok (.ireturn, 1) := dk_172 (dk_at dksX0_setWeight_1 0 rfl rfl)
theorem dX0_setWeight_25 : decode cX0_setWeight 25 = .ok (.iconst 0, 1) := dk_3 (dk_at dksX0_setWeight_1 1 rfl rfl)
theorem dX0_setWeight_26 : decode cX0_setWeight 26 = .ok (.ireturn, 1) := dk_172 (dk_at dksX0_setWeight_1 2 rfl rfl)
abbrev cX0_setOn : ByteArray := method_49_code
def yX0_setOn : MethodName := ⟨RX0, "setOn", "(LAcousticCamera;IZ[J)I"⟩
def dkwX0_setOn_1 : List UInt8 := [58, 4, 5, 172, 3, 172]
abbrev dktX0_setOn_1 : List UInt8 := dkwX0_setOn_1 ++ []
def dkwX0_setOn_0 : List UInt8 := [45, 3, 42, 27, 28, 182, 0, 165, 153, 0, 7, 10, 167, 0, 4, 9, 80, 167, 0, 11, 58, 4, 4, 172]
abbrev dktX0_setOn_0 : List UInt8 := dkwX0_setOn_0 ++ dktX0_setOn_1
theorem dksX0_setOn_0 : cX0_setOn.data.toList.drop 0 = dktX0_setOn_0 := by decide +kernel
theorem dksX0_setOn_1 : cX0_setOn.data.toList.drop 24 = dktX0_setOn_1 := dk_seg dksX0_setOn_0 24 rfl rfl
theorem dX0_setOn_0 : decode cX0_setOn 0 = .ok (.aload_n 3, 1) := dk_45 (dk_at dksX0_setOn_0 0 rfl rfl)
theorem dX0_setOn_1 : decode cX0_setOn 1 = .ok (.iconst 0, 1) := dk_3 (dk_at dksX0_setOn_0 1 rfl rfl)
theorem dX0_setOn_2 : decode cX0_setOn 2 = .ok (.aload_n 0, 1) := dk_42 (dk_at dksX0_setOn_0 2 rfl rfl)
theorem dX0_setOn_3 : decode cX0_setOn 3 = .ok (.iload_n 1, 1) := dk_27 (dk_at dksX0_setOn_0 3 rfl rfl)
theorem dX0_setOn_4 : decode cX0_setOn 4 = .ok (.iload_n 2, 1) := dk_28 (dk_at dksX0_setOn_0 4 rfl rfl)
theorem dX0_setOn_5 : decode cX0_setOn 5 = .ok (.invokevirtual 165, 3) := dk_182 0 165 (dk_at dksX0_setOn_0 5 rfl rfl)
theorem dX0_setOn_8 : decode cX0_setOn 8 = .ok (.ifCond .eq 7, 3) := dk_153 0 7 (dk_at dksX0_setOn_0 8 rfl rfl)
theorem dX0_setOn_11 : decode cX0_setOn 11 = .ok (.lconst 1, 1) := dk_10 (dk_at dksX0_setOn_0 11 rfl rfl)
theorem dX0_setOn_12 : decode cX0_setOn 12 = .ok (.goto 4, 3) := dk_167 0 4 (dk_at dksX0_setOn_0 12 rfl rfl)
theorem dX0_setOn_15 : decode cX0_setOn 15 = .ok (.lconst 0, 1) := dk_9 (dk_at dksX0_setOn_0 15 rfl rfl)
theorem dX0_setOn_16 : decode cX0_setOn 16 = .ok (.lastore, 1) := dk_80 (dk_at dksX0_setOn_0 16 rfl rfl)
theorem dX0_setOn_17 : decode cX0_setOn 17 = .ok (.goto 11, 3) := dk_167 0 11 (dk_at dksX0_setOn_0 17 rfl rfl)
theorem dX0_setOn_20 : decode cX0_setOn 20 = .ok (.astore 4, 2) := dk_58 4 (dk_at dksX0_setOn_0 20 rfl rfl)
theorem dX0_setOn_22 : decode cX0_setOn 22 = .ok (.iconst 1, 1) := dk_4 (dk_at dksX0_setOn_0 22 rfl rfl)
theorem dX0_setOn_23 : decode cX0_setOn 23 = .ok (.ireturn, 1) := dk_172 (dk_at dksX0_setOn_0 23 rfl rfl)
theorem dX0_setOn_24 : decode cX0_setOn 24 = .ok (.astore 4, 2) := dk_58 4 (dk_at dksX0_setOn_1 0 rfl rfl)
theorem dX0_setOn_26 : decode cX0_setOn 26 = .ok (.iconst 2, 1) := dk_5 (dk_at dksX0_setOn_1 2 rfl rfl)
theorem dX0_setOn_27 : decode cX0_setOn 27 = .ok (.ireturn, 1) := dk_172 (dk_at dksX0_setOn_1 3 rfl rfl)
theorem dX0_setOn_28 : decode cX0_setOn 28 = .ok (.iconst 0, 1) := dk_3 (dk_at dksX0_setOn_1 4 rfl rfl)
theorem dX0_setOn_29 : decode cX0_setOn 29 = .ok (.ireturn, 1) := dk_172 (dk_at dksX0_setOn_1 5 rfl rfl)
abbrev cX0_moveSource : ByteArray := method_50_code
def yX0_moveSource : MethodName := ⟨RX0, "moveSource", "(LAcousticCamera;III[J)I"⟩
def dkwX0_moveSource_1 : List UInt8 := [58, 5, 6, 172, 3, 172]
abbrev dktX0_moveSource_1 : List UInt8 := dkwX0_moveSource_1 ++ []
def dkwX0_moveSource_0 : List UInt8 := [25, 4, 3, 42, 27, 28, 29, 182, 0, 168, 133, 80, 167, 0, 15, 58, 5, 4, 172, 58, 5, 5, 172]
abbrev dktX0_moveSource_0 : List UInt8 := dkwX0_moveSource_0 ++ dktX0_moveSource_1
theorem dksX0_moveSource_0 : cX0_moveSource.data.toList.drop 0 = dktX0_moveSource_0 := by decide +kernel
theorem dksX0_moveSource_1 : cX0_moveSource.data.toList.drop 23 = dktX0_moveSource_1 := dk_seg dksX0_moveSource_0 23 rfl rfl
theorem dX0_moveSource_0 : decode cX0_moveSource 0 = .ok (.aload 4, 2) := dk_25 4 (dk_at dksX0_moveSource_0 0 rfl rfl)
theorem dX0_moveSource_2 : decode cX0_moveSource 2 = .ok (.iconst 0, 1) := dk_3 (dk_at dksX0_moveSource_0 2 rfl rfl)
theorem dX0_moveSource_3 : decode cX0_moveSource 3 = .ok (.aload_n 0, 1) := dk_42 (dk_at dksX0_moveSource_0 3 rfl rfl)
theorem dX0_moveSource_4 : decode cX0_moveSource 4 = .ok (.iload_n 1, 1) := dk_27 (dk_at dksX0_moveSource_0 4 rfl rfl)
theorem dX0_moveSource_5 : decode cX0_moveSource 5 = .ok (.iload_n 2, 1) := dk_28 (dk_at dksX0_moveSource_0 5 rfl rfl)
theorem dX0_moveSource_6 : decode cX0_moveSource 6 = .ok (.iload_n 3, 1) := dk_29 (dk_at dksX0_moveSource_0 6 rfl rfl)
theorem dX0_moveSource_7 : decode cX0_moveSource 7 = .ok (.invokevirtual 168, 3) := dk_182 0 168 (dk_at dksX0_moveSource_0 7 rfl rfl)
theorem dX0_moveSource_10 : decode cX0_moveSource 10 = .ok (.i2l, 1) := dk_133 (dk_at dksX0_moveSource_0 10 rfl rfl)
theorem dX0_moveSource_11 : decode cX0_moveSource 11 = .ok (.lastore, 1) := dk_80 (dk_at dksX0_moveSource_0 11 rfl rfl)
theorem dX0_moveSource_12 : decode cX0_moveSource 12 = .ok (.goto 15, 3) := dk_167 0 15 (dk_at dksX0_moveSource_0 12 rfl rfl)
theorem dX0_moveSource_15 : decode cX0_moveSource 15 = .ok (.astore 5, 2) := dk_58 5 (dk_at dksX0_moveSource_0 15 rfl rfl)
theorem dX0_moveSource_17 : decode cX0_moveSource 17 = .ok (.iconst 1, 1) := dk_4 (dk_at dksX0_moveSource_0 17 rfl rfl)
theorem dX0_moveSource_18 : decode cX0_moveSource 18 = .ok (.ireturn, 1) := dk_172 (dk_at dksX0_moveSource_0 18 rfl rfl)
theorem dX0_moveSource_19 : decode cX0_moveSource 19 = .ok (.astore 5, 2) := dk_58 5 (dk_at dksX0_moveSource_0 19 rfl rfl)
theorem dX0_moveSource_21 : decode cX0_moveSource 21 = .ok (.iconst 2, 1) := dk_5 (dk_at dksX0_moveSource_0 21 rfl rfl)
theorem dX0_moveSource_22 : decode cX0_moveSource 22 = .ok (.ireturn, 1) := dk_172 (dk_at dksX0_moveSource_0 22 rfl rfl)
theorem dX0_moveSource_23 : decode cX0_moveSource 23 = .ok (.astore 5, 2) := dk_58 5 (dk_at dksX0_moveSource_1 0 rfl rfl)
theorem dX0_moveSource_25 : decode cX0_moveSource 25 = .ok (.iconst 3, 1) := dk_6 (dk_at dksX0_moveSource_1 2 rfl rfl)
theorem dX0_moveSource_26 : decode cX0_moveSource 26 = .ok (.ireturn, 1) := dk_172 (dk_at dksX0_moveSource_1 3 rfl rfl)
theorem dX0_moveSource_27 : decode cX0_moveSource 27 = .ok (.iconst 0, 1) := dk_3 (dk_at dksX0_moveSource_1 4 rfl rfl)
theorem dX0_moveSource_28 : decode cX0_moveSource 28 = .ok (.ireturn, 1) := dk_172 (dk_at dksX0_moveSource_1 5 rfl rfl)
abbrev cX0_setVelocity : ByteArray := method_51_code
def yX0_setVelocity : MethodName := ⟨RX0, "setVelocity", "(LAcousticCamera;III[J)I"⟩
def dkwX0_setVelocity_1 : List UInt8 := [58, 5, 6, 172, 3, 172]
abbrev dktX0_setVelocity_1 : List UInt8 := dkwX0_setVelocity_1 ++ []
def dkwX0_setVelocity_0 : List UInt8 := [25, 4, 3, 42, 27, 28, 29, 182, 0, 171, 133, 80, 167, 0, 15, 58, 5, 4, 172, 58, 5, 5, 172]
abbrev dktX0_setVelocity_0 : List UInt8 := dkwX0_setVelocity_0 ++ dktX0_setVelocity_1
theorem dksX0_setVelocity_0 : cX0_setVelocity.data.toList.drop 0 = dktX0_setVelocity_0 := by decide +kernel
theorem dksX0_setVelocity_1 : cX0_setVelocity.data.toList.drop 23 = dktX0_setVelocity_1 := dk_seg dksX0_setVelocity_0 23 rfl rfl
theorem dX0_setVelocity_0 : decode cX0_setVelocity 0 = .ok (.aload 4, 2) := dk_25 4 (dk_at dksX0_setVelocity_0 0 rfl rfl)
theorem dX0_setVelocity_2 : decode cX0_setVelocity 2 = .ok (.iconst 0, 1) := dk_3 (dk_at dksX0_setVelocity_0 2 rfl rfl)
theorem dX0_setVelocity_3 : decode cX0_setVelocity 3 = .ok (.aload_n 0, 1) := dk_42 (dk_at dksX0_setVelocity_0 3 rfl rfl)
theorem dX0_setVelocity_4 : decode cX0_setVelocity 4 = .ok (.iload_n 1, 1) := dk_27 (dk_at dksX0_setVelocity_0 4 rfl rfl)
theorem dX0_setVelocity_5 : decode cX0_setVelocity 5 = .ok (.iload_n 2, 1) := dk_28 (dk_at dksX0_setVelocity_0 5 rfl rfl)
theorem dX0_setVelocity_6 : decode cX0_setVelocity 6 = .ok (.iload_n 3, 1) := dk_29 (dk_at dksX0_setVelocity_0 6 rfl rfl)
theorem dX0_setVelocity_7 : decode cX0_setVelocity 7 = .ok (.invokevirtual 171, 3) := dk_182 0 171 (dk_at dksX0_setVelocity_0 7 rfl rfl)
theorem dX0_setVelocity_10 : decode cX0_setVelocity 10 = .ok (.i2l, 1) := dk_133 (dk_at dksX0_setVelocity_0 10 rfl rfl)
theorem dX0_setVelocity_11 : decode cX0_setVelocity 11 = .ok (.lastore, 1) := dk_80 (dk_at dksX0_setVelocity_0 11 rfl rfl)
theorem dX0_setVelocity_12 : decode cX0_setVelocity 12 = .ok (.goto 15, 3) := dk_167 0 15 (dk_at dksX0_setVelocity_0 12 rfl rfl)
theorem dX0_setVelocity_15 : decode cX0_setVelocity 15 = .ok (.astore 5, 2) := dk_58 5 (dk_at dksX0_setVelocity_0 15 rfl rfl)
theorem dX0_setVelocity_17 : decode cX0_setVelocity 17 = .ok (.iconst 1, 1) := dk_4 (dk_at dksX0_setVelocity_0 17 rfl rfl)
theorem dX0_setVelocity_18 : decode cX0_setVelocity 18 = .ok (.ireturn, 1) := dk_172 (dk_at dksX0_setVelocity_0 18 rfl rfl)
theorem dX0_setVelocity_19 : decode cX0_setVelocity 19 = .ok (.astore 5, 2) := dk_58 5 (dk_at dksX0_setVelocity_0 19 rfl rfl)
theorem dX0_setVelocity_21 : decode cX0_setVelocity 21 = .ok (.iconst 2, 1) := dk_5 (dk_at dksX0_setVelocity_0 21 rfl rfl)
theorem dX0_setVelocity_22 : decode cX0_setVelocity 22 = .ok (.ireturn, 1) := dk_172 (dk_at dksX0_setVelocity_0 22 rfl rfl)
theorem dX0_setVelocity_23 : decode cX0_setVelocity 23 = .ok (.astore 5, 2) := dk_58 5 (dk_at dksX0_setVelocity_1 0 rfl rfl)
theorem dX0_setVelocity_25 : decode cX0_setVelocity 25 = .ok (.iconst 3, 1) := dk_6 (dk_at dksX0_setVelocity_1 2 rfl rfl)
theorem dX0_setVelocity_26 : decode cX0_setVelocity 26 = .ok (.ireturn, 1) := dk_172 (dk_at dksX0_setVelocity_1 3 rfl rfl)
theorem dX0_setVelocity_27 : decode cX0_setVelocity 27 = .ok (.iconst 0, 1) := dk_3 (dk_at dksX0_setVelocity_1 4 rfl rfl)
theorem dX0_setVelocity_28 : decode cX0_setVelocity 28 = .ok (.ireturn, 1) := dk_172 (dk_at dksX0_setVelocity_1 5 rfl rfl)
abbrev cX0_clean : ByteArray := method_52_code
def yX0_clean : MethodName := ⟨RX0, "clean", "(LAcousticCamera;I[J)I"⟩
def dkwX0_clean_0 : List UInt8 := [44, 3, 42, 27, 182, 0, 174, 133, 80, 167, 0, 9, 78, 4, 172, 78, 5, 172, 3, 172]
abbrev dktX0_clean_0 : List UInt8 := dkwX0_clean_0 ++ []
theorem dksX0_clean_0 : cX0_clean.data.toList.drop 0 = dktX0_clean_0 := by decide +kernel
theorem dX0_clean_0 : decode cX0_clean 0 = .ok (.aload_n 2, 1) := dk_44 (dk_at dksX0_clean_0 0 rfl rfl)
theorem dX0_clean_1 : decode cX0_clean 1 = .ok (.iconst 0, 1) := dk_3 (dk_at dksX0_clean_0 1 rfl rfl)
theorem dX0_clean_2 : decode cX0_clean 2 = .ok (.aload_n 0, 1) := dk_42 (dk_at dksX0_clean_0 2 rfl rfl)
theorem dX0_clean_3 : decode cX0_clean 3 = .ok (.iload_n 1, 1) := dk_27 (dk_at dksX0_clean_0 3 rfl rfl)
theorem dX0_clean_4 : decode cX0_clean 4 = .ok (.invokevirtual 174, 3) := dk_182 0 174 (dk_at dksX0_clean_0 4 rfl rfl)
theorem dX0_clean_7 : decode cX0_clean 7 = .ok (.i2l, 1) := dk_133 (dk_at dksX0_clean_0 7 rfl rfl)
theorem dX0_clean_8 : decode cX0_clean 8 = .ok (.lastore, 1) := dk_80 (dk_at dksX0_clean_0 8 rfl rfl)
theorem dX0_clean_9 : decode cX0_clean 9 = .ok (.goto 9, 3) := dk_167 0 9 (dk_at dksX0_clean_0 9 rfl rfl)
theorem dX0_clean_12 : decode cX0_clean 12 = .ok (.astore_n 3, 1) := dk_78 (dk_at dksX0_clean_0 12 rfl rfl)
theorem dX0_clean_13 : decode cX0_clean 13 = .ok (.iconst 1, 1) := dk_4 (dk_at dksX0_clean_0 13 rfl rfl)
theorem dX0_clean_14 : decode cX0_clean 14 = .ok (.ireturn, 1) := dk_172 (dk_at dksX0_clean_0 14 rfl rfl)
theorem dX0_clean_15 : decode cX0_clean 15 = .ok (.astore_n 3, 1) := dk_78 (dk_at dksX0_clean_0 15 rfl rfl)
theorem dX0_clean_16 : decode cX0_clean 16 = .ok (.iconst 2, 1) := dk_5 (dk_at dksX0_clean_0 16 rfl rfl)
theorem dX0_clean_17 : decode cX0_clean 17 = .ok (.ireturn, 1) := dk_172 (dk_at dksX0_clean_0 17 rfl rfl)
theorem dX0_clean_18 : decode cX0_clean 18 = .ok (.iconst 0, 1) := dk_3 (dk_at dksX0_clean_0 18 rfl rfl)
theorem dX0_clean_19 : decode cX0_clean 19 = .ok (.ireturn, 1) := dk_172 (dk_at dksX0_clean_0 19 rfl rfl)
abbrev cX0_cleaned : ByteArray := method_53_code
def yX0_cleaned : MethodName := ⟨RX0, "cleaned", "(LAcousticCamera;[J)I"⟩
def dkwX0_cleaned_0 : List UInt8 := [43, 3, 42, 182, 0, 177, 133, 80, 167, 0, 6, 77, 4, 172, 3, 172]
abbrev dktX0_cleaned_0 : List UInt8 := dkwX0_cleaned_0 ++ []
theorem dksX0_cleaned_0 : cX0_cleaned.data.toList.drop 0 = dktX0_cleaned_0 := by decide +kernel
theorem dX0_cleaned_0 : decode cX0_cleaned 0 = .ok (.aload_n 1, 1) := dk_43 (dk_at dksX0_cleaned_0 0 rfl rfl)
theorem dX0_cleaned_1 : decode cX0_cleaned 1 = .ok (.iconst 0, 1) := dk_3 (dk_at dksX0_cleaned_0 1 rfl rfl)
theorem dX0_cleaned_2 : decode cX0_cleaned 2 = .ok (.aload_n 0, 1) := dk_42 (dk_at dksX0_cleaned_0 2 rfl rfl)
theorem dX0_cleaned_3 : decode cX0_cleaned 3 = .ok (.invokevirtual 177, 3) := dk_182 0 177 (dk_at dksX0_cleaned_0 3 rfl rfl)
theorem dX0_cleaned_6 : decode cX0_cleaned 6 = .ok (.i2l, 1) := dk_133 (dk_at dksX0_cleaned_0 6 rfl rfl)
theorem dX0_cleaned_7 : decode cX0_cleaned 7 = .ok (.lastore, 1) := dk_80 (dk_at dksX0_cleaned_0 7 rfl rfl)
theorem dX0_cleaned_8 : decode cX0_cleaned 8 = .ok (.goto 6, 3) := dk_167 0 6 (dk_at dksX0_cleaned_0 8 rfl rfl)
theorem dX0_cleaned_11 : decode cX0_cleaned 11 = .ok (.astore_n 2, 1) := dk_77 (dk_at dksX0_cleaned_0 11 rfl rfl)
theorem dX0_cleaned_12 : decode cX0_cleaned 12 = .ok (.iconst 1, 1) := dk_4 (dk_at dksX0_cleaned_0 12 rfl rfl)
theorem dX0_cleaned_13 : decode cX0_cleaned 13 = .ok (.ireturn, 1) := dk_172 (dk_at dksX0_cleaned_0 13 rfl rfl)
theorem dX0_cleaned_14 : decode cX0_cleaned 14 = .ok (.iconst 0, 1) := dk_3 (dk_at dksX0_cleaned_0 14 rfl rfl)
theorem dX0_cleaned_15 : decode cX0_cleaned 15 = .ok (.ireturn, 1) := dk_172 (dk_at dksX0_cleaned_0 15 rfl rfl)
abbrev cX0_undo : ByteArray := method_54_code
def yX0_undo : MethodName := ⟨RX0, "undo", "(LAcousticCamera;[J)I"⟩
def dkwX0_undo_0 : List UInt8 := [43, 3, 42, 182, 0, 180, 133, 80, 167, 0, 6, 77, 4, 172, 3, 172]
abbrev dktX0_undo_0 : List UInt8 := dkwX0_undo_0 ++ []
theorem dksX0_undo_0 : cX0_undo.data.toList.drop 0 = dktX0_undo_0 := by decide +kernel
theorem dX0_undo_0 : decode cX0_undo 0 = .ok (.aload_n 1, 1) := dk_43 (dk_at dksX0_undo_0 0 rfl rfl)
theorem dX0_undo_1 : decode cX0_undo 1 = .ok (.iconst 0, 1) := dk_3 (dk_at dksX0_undo_0 1 rfl rfl)
theorem dX0_undo_2 : decode cX0_undo 2 = .ok (.aload_n 0, 1) := dk_42 (dk_at dksX0_undo_0 2 rfl rfl)
theorem dX0_undo_3 : decode cX0_undo 3 = .ok (.invokevirtual 180, 3) := dk_182 0 180 (dk_at dksX0_undo_0 3 rfl rfl)
theorem dX0_undo_6 : decode cX0_undo 6 = .ok (.i2l, 1) := dk_133 (dk_at dksX0_undo_0 6 rfl rfl)
theorem dX0_undo_7 : decode cX0_undo 7 = .ok (.lastore, 1) := dk_80 (dk_at dksX0_undo_0 7 rfl rfl)
theorem dX0_undo_8 : decode cX0_undo 8 = .ok (.goto 6, 3) := dk_167 0 6 (dk_at dksX0_undo_0 8 rfl rfl)
theorem dX0_undo_11 : decode cX0_undo 11 = .ok (.astore_n 2, 1) := dk_77 (dk_at dksX0_undo_0 11 rfl rfl)
theorem dX0_undo_12 : decode cX0_undo 12 = .ok (.iconst 1, 1) := dk_4 (dk_at dksX0_undo_0 12 rfl rfl)
theorem dX0_undo_13 : decode cX0_undo 13 = .ok (.ireturn, 1) := dk_172 (dk_at dksX0_undo_0 13 rfl rfl)
theorem dX0_undo_14 : decode cX0_undo 14 = .ok (.iconst 0, 1) := dk_3 (dk_at dksX0_undo_0 14 rfl rfl)
theorem dX0_undo_15 : decode cX0_undo 15 = .ok (.ireturn, 1) := dk_172 (dk_at dksX0_undo_0 15 rfl rfl)
abbrev cX0_save : ByteArray := method_55_code
def yX0_save : MethodName := ⟨RX0, "save", "(LAcousticCamera;I[J)I"⟩
def dkwX0_save_0 : List UInt8 := [44, 3, 42, 27, 182, 0, 183, 133, 80, 167, 0, 9, 78, 4, 172, 78, 5, 172, 3, 172]
abbrev dktX0_save_0 : List UInt8 := dkwX0_save_0 ++ []
theorem dksX0_save_0 : cX0_save.data.toList.drop 0 = dktX0_save_0 := by decide +kernel
theorem dX0_save_0 : decode cX0_save 0 = .ok (.aload_n 2, 1) := dk_44 (dk_at dksX0_save_0 0 rfl rfl)
theorem dX0_save_1 : decode cX0_save 1 = .ok (.iconst 0, 1) := dk_3 (dk_at dksX0_save_0 1 rfl rfl)
theorem dX0_save_2 : decode cX0_save 2 = .ok (.aload_n 0, 1) := dk_42 (dk_at dksX0_save_0 2 rfl rfl)
theorem dX0_save_3 : decode cX0_save 3 = .ok (.iload_n 1, 1) := dk_27 (dk_at dksX0_save_0 3 rfl rfl)
theorem dX0_save_4 : decode cX0_save 4 = .ok (.invokevirtual 183, 3) := dk_182 0 183 (dk_at dksX0_save_0 4 rfl rfl)
theorem dX0_save_7 : decode cX0_save 7 = .ok (.i2l, 1) := dk_133 (dk_at dksX0_save_0 7 rfl rfl)
theorem dX0_save_8 : decode cX0_save 8 = .ok (.lastore, 1) := dk_80 (dk_at dksX0_save_0 8 rfl rfl)
theorem dX0_save_9 : decode cX0_save 9 = .ok (.goto 9, 3) := dk_167 0 9 (dk_at dksX0_save_0 9 rfl rfl)
theorem dX0_save_12 : decode cX0_save 12 = .ok (.astore_n 3, 1) := dk_78 (dk_at dksX0_save_0 12 rfl rfl)
theorem dX0_save_13 : decode cX0_save 13 = .ok (.iconst 1, 1) := dk_4 (dk_at dksX0_save_0 13 rfl rfl)
theorem dX0_save_14 : decode cX0_save 14 = .ok (.ireturn, 1) := dk_172 (dk_at dksX0_save_0 14 rfl rfl)
theorem dX0_save_15 : decode cX0_save 15 = .ok (.astore_n 3, 1) := dk_78 (dk_at dksX0_save_0 15 rfl rfl)
theorem dX0_save_16 : decode cX0_save 16 = .ok (.iconst 2, 1) := dk_5 (dk_at dksX0_save_0 16 rfl rfl)
theorem dX0_save_17 : decode cX0_save 17 = .ok (.ireturn, 1) := dk_172 (dk_at dksX0_save_0 17 rfl rfl)
theorem dX0_save_18 : decode cX0_save 18 = .ok (.iconst 0, 1) := dk_3 (dk_at dksX0_save_0 18 rfl rfl)
theorem dX0_save_19 : decode cX0_save 19 = .ok (.ireturn, 1) := dk_172 (dk_at dksX0_save_0 19 rfl rfl)
abbrev cX0_restore : ByteArray := method_56_code
def yX0_restore : MethodName := ⟨RX0, "restore", "(LAcousticCamera;I[J)I"⟩
def dkwX0_restore_0 : List UInt8 := [44, 3, 42, 27, 182, 0, 186, 133, 80, 167, 0, 9, 78, 4, 172, 78, 5, 172, 3, 172]
abbrev dktX0_restore_0 : List UInt8 := dkwX0_restore_0 ++ []
theorem dksX0_restore_0 : cX0_restore.data.toList.drop 0 = dktX0_restore_0 := by decide +kernel
theorem dX0_restore_0 : decode cX0_restore 0 = .ok (.aload_n 2, 1) := dk_44 (dk_at dksX0_restore_0 0 rfl rfl)
theorem dX0_restore_1 : decode cX0_restore 1 = .ok (.iconst 0, 1) := dk_3 (dk_at dksX0_restore_0 1 rfl rfl)
theorem dX0_restore_2 : decode cX0_restore 2 = .ok (.aload_n 0, 1) := dk_42 (dk_at dksX0_restore_0 2 rfl rfl)
theorem dX0_restore_3 : decode cX0_restore 3 = .ok (.iload_n 1, 1) := dk_27 (dk_at dksX0_restore_0 3 rfl rfl)
theorem dX0_restore_4 : decode cX0_restore 4 = .ok (.invokevirtual 186, 3) := dk_182 0 186 (dk_at dksX0_restore_0 4 rfl rfl)
theorem dX0_restore_7 : decode cX0_restore 7 = .ok (.i2l, 1) := dk_133 (dk_at dksX0_restore_0 7 rfl rfl)
theorem dX0_restore_8 : decode cX0_restore 8 = .ok (.lastore, 1) := dk_80 (dk_at dksX0_restore_0 8 rfl rfl)
theorem dX0_restore_9 : decode cX0_restore 9 = .ok (.goto 9, 3) := dk_167 0 9 (dk_at dksX0_restore_0 9 rfl rfl)
theorem dX0_restore_12 : decode cX0_restore 12 = .ok (.astore_n 3, 1) := dk_78 (dk_at dksX0_restore_0 12 rfl rfl)
theorem dX0_restore_13 : decode cX0_restore 13 = .ok (.iconst 1, 1) := dk_4 (dk_at dksX0_restore_0 13 rfl rfl)
theorem dX0_restore_14 : decode cX0_restore 14 = .ok (.ireturn, 1) := dk_172 (dk_at dksX0_restore_0 14 rfl rfl)
theorem dX0_restore_15 : decode cX0_restore 15 = .ok (.astore_n 3, 1) := dk_78 (dk_at dksX0_restore_0 15 rfl rfl)
theorem dX0_restore_16 : decode cX0_restore 16 = .ok (.iconst 2, 1) := dk_5 (dk_at dksX0_restore_0 16 rfl rfl)
theorem dX0_restore_17 : decode cX0_restore 17 = .ok (.ireturn, 1) := dk_172 (dk_at dksX0_restore_0 17 rfl rfl)
theorem dX0_restore_18 : decode cX0_restore 18 = .ok (.iconst 0, 1) := dk_3 (dk_at dksX0_restore_0 18 rfl rfl)
theorem dX0_restore_19 : decode cX0_restore 19 = .ok (.ireturn, 1) := dk_172 (dk_at dksX0_restore_0 19 rfl rfl)
