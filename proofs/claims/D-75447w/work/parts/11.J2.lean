/-! decode rows: J16.java_util_Arrays.lean.txt -/
set_option maxRecDepth 100000
abbrev cJ16_copyOf : ByteArray := prog_53_method_121_code
def yJ16_copyOf : MethodName := ⟨RJ16, "copyOf", "([BI)[B"⟩
def dkwJ16_copyOf_1 : List UInt8 := [27, 184, 1, 48, 184, 0, 150, 44, 176]
abbrev dktJ16_copyOf_1 : List UInt8 := dkwJ16_copyOf_1 ++ []
def dkwJ16_copyOf_0 : List UInt8 := [27, 42, 190, 160, 0, 11, 42, 182, 1, 54, 192, 1, 55, 176, 27, 188, 8, 77, 42, 3, 44, 3, 42, 190]
abbrev dktJ16_copyOf_0 : List UInt8 := dkwJ16_copyOf_0 ++ dktJ16_copyOf_1
theorem dksJ16_copyOf_0 : cJ16_copyOf.data.toList.drop 0 = dktJ16_copyOf_0 := by decide +kernel
theorem dksJ16_copyOf_1 : cJ16_copyOf.data.toList.drop 24 = dktJ16_copyOf_1 := dk_seg dksJ16_copyOf_0 24 rfl rfl
theorem dJ16_copyOf_0 : decode cJ16_copyOf 0 = .ok (.iload_n 1, 1) := dk_27 (dk_at dksJ16_copyOf_0 0 rfl rfl)
theorem dJ16_copyOf_1 : decode cJ16_copyOf 1 = .ok (.aload_n 0, 1) := dk_42 (dk_at dksJ16_copyOf_0 1 rfl rfl)
theorem dJ16_copyOf_2 : decode cJ16_copyOf 2 = .ok (.arraylength, 1) := dk_190 (dk_at dksJ16_copyOf_0 2 rfl rfl)
theorem dJ16_copyOf_3 : decode cJ16_copyOf 3 = .ok (.if_icmp .ne 11, 3) := dk_160 0 11 (dk_at dksJ16_copyOf_0 3 rfl rfl)
theorem dJ16_copyOf_6 : decode cJ16_copyOf 6 = .ok (.aload_n 0, 1) := dk_42 (dk_at dksJ16_copyOf_0 6 rfl rfl)
theorem dJ16_copyOf_7 : decode cJ16_copyOf 7 = .ok (.invokevirtual 310, 3) := dk_182 1 54 (dk_at dksJ16_copyOf_0 7 rfl rfl)
theorem dJ16_copyOf_10 : decode cJ16_copyOf 10 = .ok (.checkcast 311, 3) := dk_192 1 55 (dk_at dksJ16_copyOf_0 10 rfl rfl)
theorem dJ16_copyOf_13 : decode cJ16_copyOf 13 = .ok (.areturn, 1) := dk_176 (dk_at dksJ16_copyOf_0 13 rfl rfl)
theorem dJ16_copyOf_14 : decode cJ16_copyOf 14 = .ok (.iload_n 1, 1) := dk_27 (dk_at dksJ16_copyOf_0 14 rfl rfl)
theorem dJ16_copyOf_15 : decode cJ16_copyOf 15 = .ok (.newarray .byte, 2) := dk_188_8 (dk_at dksJ16_copyOf_0 15 rfl rfl)
theorem dJ16_copyOf_17 : decode cJ16_copyOf 17 = .ok (.astore_n 2, 1) := dk_77 (dk_at dksJ16_copyOf_0 17 rfl rfl)
theorem dJ16_copyOf_18 : decode cJ16_copyOf 18 = .ok (.aload_n 0, 1) := dk_42 (dk_at dksJ16_copyOf_0 18 rfl rfl)
theorem dJ16_copyOf_19 : decode cJ16_copyOf 19 = .ok (.iconst 0, 1) := dk_3 (dk_at dksJ16_copyOf_0 19 rfl rfl)
theorem dJ16_copyOf_20 : decode cJ16_copyOf 20 = .ok (.aload_n 2, 1) := dk_44 (dk_at dksJ16_copyOf_0 20 rfl rfl)
theorem dJ16_copyOf_21 : decode cJ16_copyOf 21 = .ok (.iconst 0, 1) := dk_3 (dk_at dksJ16_copyOf_0 21 rfl rfl)
theorem dJ16_copyOf_22 : decode cJ16_copyOf 22 = .ok (.aload_n 0, 1) := dk_42 (dk_at dksJ16_copyOf_0 22 rfl rfl)
theorem dJ16_copyOf_23 : decode cJ16_copyOf 23 = .ok (.arraylength, 1) := dk_190 (dk_at dksJ16_copyOf_0 23 rfl rfl)
theorem dJ16_copyOf_24 : decode cJ16_copyOf 24 = .ok (.iload_n 1, 1) := dk_27 (dk_at dksJ16_copyOf_1 0 rfl rfl)
theorem dJ16_copyOf_25 : decode cJ16_copyOf 25 = .ok (.invokestatic 304, 3) := dk_184 1 48 (dk_at dksJ16_copyOf_1 1 rfl rfl)
theorem dJ16_copyOf_28 : decode cJ16_copyOf 28 = .ok (.invokestatic 150, 3) := dk_184 0 150 (dk_at dksJ16_copyOf_1 4 rfl rfl)
theorem dJ16_copyOf_31 : decode cJ16_copyOf 31 = .ok (.aload_n 2, 1) := dk_44 (dk_at dksJ16_copyOf_1 7 rfl rfl)
theorem dJ16_copyOf_32 : decode cJ16_copyOf 32 = .ok (.areturn, 1) := dk_176 (dk_at dksJ16_copyOf_1 8 rfl rfl)
abbrev cJ16_copyOfRange : ByteArray := prog_53_method_132_code
def yJ16_copyOfRange : MethodName := ⟨RJ16, "copyOfRange", "([BII)[B"⟩
def dkwJ16_copyOfRange_1 : List UInt8 := [176]
abbrev dktJ16_copyOfRange_1 : List UInt8 := dkwJ16_copyOfRange_1 ++ []
def dkwJ16_copyOfRange_0 : List UInt8 := [27, 154, 0, 9, 28, 42, 190, 159, 0, 10, 42, 27, 28, 184, 1, 83, 176, 42, 182, 1, 54, 192, 1, 55]
abbrev dktJ16_copyOfRange_0 : List UInt8 := dkwJ16_copyOfRange_0 ++ dktJ16_copyOfRange_1
theorem dksJ16_copyOfRange_0 : cJ16_copyOfRange.data.toList.drop 0 = dktJ16_copyOfRange_0 := by decide +kernel
theorem dksJ16_copyOfRange_1 : cJ16_copyOfRange.data.toList.drop 24 = dktJ16_copyOfRange_1 := dk_seg dksJ16_copyOfRange_0 24 rfl rfl
theorem dJ16_copyOfRange_0 : decode cJ16_copyOfRange 0 = .ok (.iload_n 1, 1) := dk_27 (dk_at dksJ16_copyOfRange_0 0 rfl rfl)
theorem dJ16_copyOfRange_1 : decode cJ16_copyOfRange 1 = .ok (.ifCond .ne 9, 3) := dk_154 0 9 (dk_at dksJ16_copyOfRange_0 1 rfl rfl)
theorem dJ16_copyOfRange_4 : decode cJ16_copyOfRange 4 = .ok (.iload_n 2, 1) := dk_28 (dk_at dksJ16_copyOfRange_0 4 rfl rfl)
theorem dJ16_copyOfRange_5 : decode cJ16_copyOfRange 5 = .ok (.aload_n 0, 1) := dk_42 (dk_at dksJ16_copyOfRange_0 5 rfl rfl)
theorem dJ16_copyOfRange_6 : decode cJ16_copyOfRange 6 = .ok (.arraylength, 1) := dk_190 (dk_at dksJ16_copyOfRange_0 6 rfl rfl)
theorem dJ16_copyOfRange_7 : decode cJ16_copyOfRange 7 = .ok (.if_icmp .eq 10, 3) := dk_159 0 10 (dk_at dksJ16_copyOfRange_0 7 rfl rfl)
theorem dJ16_copyOfRange_10 : decode cJ16_copyOfRange 10 = .ok (.aload_n 0, 1) := dk_42 (dk_at dksJ16_copyOfRange_0 10 rfl rfl)
theorem dJ16_copyOfRange_11 : decode cJ16_copyOfRange 11 = .ok (.iload_n 1, 1) := dk_27 (dk_at dksJ16_copyOfRange_0 11 rfl rfl)
theorem dJ16_copyOfRange_12 : decode cJ16_copyOfRange 12 = .ok (.iload_n 2, 1) := dk_28 (dk_at dksJ16_copyOfRange_0 12 rfl rfl)
theorem dJ16_copyOfRange_13 : decode cJ16_copyOfRange 13 = .ok (.invokestatic 339, 3) := dk_184 1 83 (dk_at dksJ16_copyOfRange_0 13 rfl rfl)
theorem dJ16_copyOfRange_16 : decode cJ16_copyOfRange 16 = .ok (.areturn, 1) := dk_176 (dk_at dksJ16_copyOfRange_0 16 rfl rfl)
theorem dJ16_copyOfRange_17 : decode cJ16_copyOfRange 17 = .ok (.aload_n 0, 1) := dk_42 (dk_at dksJ16_copyOfRange_0 17 rfl rfl)
theorem dJ16_copyOfRange_18 : decode cJ16_copyOfRange 18 = .ok (.invokevirtual 310, 3) := dk_182 1 54 (dk_at dksJ16_copyOfRange_0 18 rfl rfl)
theorem dJ16_copyOfRange_21 : decode cJ16_copyOfRange 21 = .ok (.checkcast 311, 3) := dk_192 1 55 (dk_at dksJ16_copyOfRange_0 21 rfl rfl)
theorem dJ16_copyOfRange_24 : decode cJ16_copyOfRange 24 = .ok (.areturn, 1) := dk_176 (dk_at dksJ16_copyOfRange_1 0 rfl rfl)
abbrev cJ16_copyOfRangeByte : ByteArray := prog_53_method_133_code
def yJ16_copyOfRangeByte : MethodName := ⟨RJ16, "copyOfRangeByte", "([BII)[B"⟩
def dkwJ16_copyOfRangeByte_1 : List UInt8 := [184, 1, 48, 184, 0, 150, 25, 4, 176]
abbrev dktJ16_copyOfRangeByte_1 : List UInt8 := dkwJ16_copyOfRangeByte_1 ++ []
def dkwJ16_copyOfRangeByte_0 : List UInt8 := [27, 28, 184, 1, 87, 28, 27, 100, 62, 29, 188, 8, 58, 4, 42, 27, 25, 4, 3, 42, 190, 27, 100, 29]
abbrev dktJ16_copyOfRangeByte_0 : List UInt8 := dkwJ16_copyOfRangeByte_0 ++ dktJ16_copyOfRangeByte_1
theorem dksJ16_copyOfRangeByte_0 : cJ16_copyOfRangeByte.data.toList.drop 0 = dktJ16_copyOfRangeByte_0 := by decide +kernel
theorem dksJ16_copyOfRangeByte_1 : cJ16_copyOfRangeByte.data.toList.drop 24 = dktJ16_copyOfRangeByte_1 := dk_seg dksJ16_copyOfRangeByte_0 24 rfl rfl
theorem dJ16_copyOfRangeByte_0 : decode cJ16_copyOfRangeByte 0 = .ok (.iload_n 1, 1) := dk_27 (dk_at dksJ16_copyOfRangeByte_0 0 rfl rfl)
theorem dJ16_copyOfRangeByte_1 : decode cJ16_copyOfRangeByte 1 = .ok (.iload_n 2, 1) := dk_28 (dk_at dksJ16_copyOfRangeByte_0 1 rfl rfl)
theorem dJ16_copyOfRangeByte_2 : decode cJ16_copyOfRangeByte 2 = .ok (.invokestatic 343, 3) := dk_184 1 87 (dk_at dksJ16_copyOfRangeByte_0 2 rfl rfl)
theorem dJ16_copyOfRangeByte_5 : decode cJ16_copyOfRangeByte 5 = .ok (.iload_n 2, 1) := dk_28 (dk_at dksJ16_copyOfRangeByte_0 5 rfl rfl)
theorem dJ16_copyOfRangeByte_6 : decode cJ16_copyOfRangeByte 6 = .ok (.iload_n 1, 1) := dk_27 (dk_at dksJ16_copyOfRangeByte_0 6 rfl rfl)
theorem dJ16_copyOfRangeByte_7 : decode cJ16_copyOfRangeByte 7 = .ok (.isub, 1) := dk_100 (dk_at dksJ16_copyOfRangeByte_0 7 rfl rfl)
theorem dJ16_copyOfRangeByte_8 : decode cJ16_copyOfRangeByte 8 = .ok (.istore_n 3, 1) := dk_62 (dk_at dksJ16_copyOfRangeByte_0 8 rfl rfl)
theorem dJ16_copyOfRangeByte_9 : decode cJ16_copyOfRangeByte 9 = .ok (.iload_n 3, 1) := dk_29 (dk_at dksJ16_copyOfRangeByte_0 9 rfl rfl)
theorem dJ16_copyOfRangeByte_10 : decode cJ16_copyOfRangeByte 10 = .ok (.newarray .byte, 2) := dk_188_8 (dk_at dksJ16_copyOfRangeByte_0 10 rfl rfl)
theorem dJ16_copyOfRangeByte_12 : decode cJ16_copyOfRangeByte 12 = .ok (.astore 4, 2) := dk_58 4 (dk_at dksJ16_copyOfRangeByte_0 12 rfl rfl)
theorem dJ16_copyOfRangeByte_14 : decode cJ16_copyOfRangeByte 14 = .ok (.aload_n 0, 1) := dk_42 (dk_at dksJ16_copyOfRangeByte_0 14 rfl rfl)
theorem dJ16_copyOfRangeByte_15 : decode cJ16_copyOfRangeByte 15 = .ok (.iload_n 1, 1) := dk_27 (dk_at dksJ16_copyOfRangeByte_0 15 rfl rfl)
theorem dJ16_copyOfRangeByte_16 : decode cJ16_copyOfRangeByte 16 = .ok (.aload 4, 2) := dk_25 4 (dk_at dksJ16_copyOfRangeByte_0 16 rfl rfl)
theorem dJ16_copyOfRangeByte_18 : decode cJ16_copyOfRangeByte 18 = .ok (.iconst 0, 1) := dk_3 (dk_at dksJ16_copyOfRangeByte_0 18 rfl rfl)
theorem dJ16_copyOfRangeByte_19 : decode cJ16_copyOfRangeByte 19 = .ok (.aload_n 0, 1) := dk_42 (dk_at dksJ16_copyOfRangeByte_0 19 rfl rfl)
theorem dJ16_copyOfRangeByte_20 : decode cJ16_copyOfRangeByte 20 = .ok (.arraylength, 1) := dk_190 (dk_at dksJ16_copyOfRangeByte_0 20 rfl rfl)
theorem dJ16_copyOfRangeByte_21 : decode cJ16_copyOfRangeByte 21 = .ok (.iload_n 1, 1) := dk_27 (dk_at dksJ16_copyOfRangeByte_0 21 rfl rfl)
theorem dJ16_copyOfRangeByte_22 : decode cJ16_copyOfRangeByte 22 = .ok (.isub, 1) := dk_100 (dk_at dksJ16_copyOfRangeByte_0 22 rfl rfl)
theorem dJ16_copyOfRangeByte_23 : decode cJ16_copyOfRangeByte 23 = .ok (.iload_n 3, 1) := dk_29 (dk_at dksJ16_copyOfRangeByte_0 23 rfl rfl)
theorem dJ16_copyOfRangeByte_24 : decode cJ16_copyOfRangeByte 24 = .ok (.invokestatic 304, 3) := dk_184 1 48 (dk_at dksJ16_copyOfRangeByte_1 0 rfl rfl)
theorem dJ16_copyOfRangeByte_27 : decode cJ16_copyOfRangeByte 27 = .ok (.invokestatic 150, 3) := dk_184 0 150 (dk_at dksJ16_copyOfRangeByte_1 3 rfl rfl)
theorem dJ16_copyOfRangeByte_30 : decode cJ16_copyOfRangeByte 30 = .ok (.aload 4, 2) := dk_25 4 (dk_at dksJ16_copyOfRangeByte_1 6 rfl rfl)
theorem dJ16_copyOfRangeByte_32 : decode cJ16_copyOfRangeByte 32 = .ok (.areturn, 1) := dk_176 (dk_at dksJ16_copyOfRangeByte_1 8 rfl rfl)
abbrev cJ16_checkLength : ByteArray := prog_53_method_131_code
def yJ16_checkLength : MethodName := ⟨RJ16, "checkLength", "(II)V"⟩
def dkwJ16_checkLength_1 : List UInt8 := [182, 0, 50, 27, 182, 0, 54, 182, 0, 61, 183, 0, 65, 191, 177]
abbrev dktJ16_checkLength_1 : List UInt8 := dkwJ16_checkLength_1 ++ []
def dkwJ16_checkLength_0 : List UInt8 := [27, 26, 162, 0, 35, 187, 0, 43, 89, 187, 0, 45, 89, 183, 0, 47, 26, 182, 0, 54, 19, 1, 81]
abbrev dktJ16_checkLength_0 : List UInt8 := dkwJ16_checkLength_0 ++ dktJ16_checkLength_1
theorem dksJ16_checkLength_0 : cJ16_checkLength.data.toList.drop 0 = dktJ16_checkLength_0 := by decide +kernel
theorem dksJ16_checkLength_1 : cJ16_checkLength.data.toList.drop 23 = dktJ16_checkLength_1 := dk_seg dksJ16_checkLength_0 23 rfl rfl
theorem dJ16_checkLength_0 : decode cJ16_checkLength 0 = .ok (.iload_n 1, 1) := dk_27 (dk_at dksJ16_checkLength_0 0 rfl rfl)
theorem dJ16_checkLength_1 : decode cJ16_checkLength 1 = .ok (.iload_n 0, 1) := dk_26 (dk_at dksJ16_checkLength_0 1 rfl rfl)
theorem dJ16_checkLength_2 : decode cJ16_checkLength 2 = .ok (.if_icmp .ge 35, 3) := dk_162 0 35 (dk_at dksJ16_checkLength_0 2 rfl rfl)
theorem dJ16_checkLength_5 : decode cJ16_checkLength 5 = .ok (.new 43, 3) := dk_187 0 43 (dk_at dksJ16_checkLength_0 5 rfl rfl)
theorem dJ16_checkLength_8 : decode cJ16_checkLength 8 = .ok (.dup, 1) := dk_89 (dk_at dksJ16_checkLength_0 8 rfl rfl)
theorem dJ16_checkLength_9 : decode cJ16_checkLength 9 = .ok (.new 45, 3) := dk_187 0 45 (dk_at dksJ16_checkLength_0 9 rfl rfl)
theorem dJ16_checkLength_12 : decode cJ16_checkLength 12 = .ok (.dup, 1) := dk_89 (dk_at dksJ16_checkLength_0 12 rfl rfl)
theorem dJ16_checkLength_13 : decode cJ16_checkLength 13 = .ok (.invokespecial 47, 3) := dk_183 0 47 (dk_at dksJ16_checkLength_0 13 rfl rfl)
theorem dJ16_checkLength_16 : decode cJ16_checkLength 16 = .ok (.iload_n 0, 1) := dk_26 (dk_at dksJ16_checkLength_0 16 rfl rfl)
theorem dJ16_checkLength_17 : decode cJ16_checkLength 17 = .ok (.invokevirtual 54, 3) := dk_182 0 54 (dk_at dksJ16_checkLength_0 17 rfl rfl)
theorem dJ16_checkLength_20 : decode cJ16_checkLength 20 = .ok (.ldc_w 337, 3) := dk_19 1 81 (dk_at dksJ16_checkLength_0 20 rfl rfl)
theorem dJ16_checkLength_23 : decode cJ16_checkLength 23 = .ok (.invokevirtual 50, 3) := dk_182 0 50 (dk_at dksJ16_checkLength_1 0 rfl rfl)
theorem dJ16_checkLength_26 : decode cJ16_checkLength 26 = .ok (.iload_n 1, 1) := dk_27 (dk_at dksJ16_checkLength_1 3 rfl rfl)
theorem dJ16_checkLength_27 : decode cJ16_checkLength 27 = .ok (.invokevirtual 54, 3) := dk_182 0 54 (dk_at dksJ16_checkLength_1 4 rfl rfl)
theorem dJ16_checkLength_30 : decode cJ16_checkLength 30 = .ok (.invokevirtual 61, 3) := dk_182 0 61 (dk_at dksJ16_checkLength_1 7 rfl rfl)
theorem dJ16_checkLength_33 : decode cJ16_checkLength 33 = .ok (.invokespecial 65, 3) := dk_183 0 65 (dk_at dksJ16_checkLength_1 10 rfl rfl)
theorem dJ16_checkLength_36 : decode cJ16_checkLength 36 = .ok (.athrow, 1) := dk_191 (dk_at dksJ16_checkLength_1 13 rfl rfl)
theorem dJ16_checkLength_37 : decode cJ16_checkLength 37 = .ok (.return_, 1) := dk_177 (dk_at dksJ16_checkLength_1 14 rfl rfl)
abbrev cJ16_copyOf_2 : ByteArray := prog_53_method_119_code
def yJ16_copyOf_2 : MethodName := ⟨RJ16, "copyOf", "([Ljava/lang/Object;I)[Ljava/lang/Object;"⟩
def dkwJ16_copyOf_2_0 : List UInt8 := [42, 27, 42, 182, 0, 86, 184, 1, 44, 176]
abbrev dktJ16_copyOf_2_0 : List UInt8 := dkwJ16_copyOf_2_0 ++ []
theorem dksJ16_copyOf_2_0 : cJ16_copyOf_2.data.toList.drop 0 = dktJ16_copyOf_2_0 := by decide +kernel
theorem dJ16_copyOf_2_0 : decode cJ16_copyOf_2 0 = .ok (.aload_n 0, 1) := dk_42 (dk_at dksJ16_copyOf_2_0 0 rfl rfl)
theorem dJ16_copyOf_2_1 : decode cJ16_copyOf_2 1 = .ok (.iload_n 1, 1) := dk_27 (dk_at dksJ16_copyOf_2_0 1 rfl rfl)
theorem dJ16_copyOf_2_2 : decode cJ16_copyOf_2 2 = .ok (.aload_n 0, 1) := dk_42 (dk_at dksJ16_copyOf_2_0 2 rfl rfl)
theorem dJ16_copyOf_2_3 : decode cJ16_copyOf_2 3 = .ok (.invokevirtual 86, 3) := dk_182 0 86 (dk_at dksJ16_copyOf_2_0 3 rfl rfl)
theorem dJ16_copyOf_2_6 : decode cJ16_copyOf_2 6 = .ok (.invokestatic 300, 3) := dk_184 1 44 (dk_at dksJ16_copyOf_2_0 6 rfl rfl)
theorem dJ16_copyOf_2_9 : decode cJ16_copyOf_2 9 = .ok (.areturn, 1) := dk_176 (dk_at dksJ16_copyOf_2_0 9 rfl rfl)
abbrev cJ16_copyOf_3 : ByteArray := prog_53_method_120_code
def yJ16_copyOf_3 : MethodName := ⟨RJ16, "copyOf", "([Ljava/lang/Object;ILjava/lang/Class;)[Ljava/lang/Object;"⟩
def dkwJ16_copyOf_3_1 : List UInt8 := [78, 42, 3, 45, 3, 42, 190, 27, 184, 1, 48, 184, 0, 150, 45, 176]
abbrev dktJ16_copyOf_3_1 : List UInt8 := dkwJ16_copyOf_3_1 ++ []
def dkwJ16_copyOf_3_0 : List UInt8 := [44, 18, 110, 166, 0, 10, 27, 189, 0, 2, 167, 0, 14, 44, 182, 0, 90, 27, 184, 0, 95, 192, 0, 110]
abbrev dktJ16_copyOf_3_0 : List UInt8 := dkwJ16_copyOf_3_0 ++ dktJ16_copyOf_3_1
theorem dksJ16_copyOf_3_0 : cJ16_copyOf_3.data.toList.drop 0 = dktJ16_copyOf_3_0 := by decide +kernel
theorem dksJ16_copyOf_3_1 : cJ16_copyOf_3.data.toList.drop 24 = dktJ16_copyOf_3_1 := dk_seg dksJ16_copyOf_3_0 24 rfl rfl
theorem dJ16_copyOf_3_0 : decode cJ16_copyOf_3 0 = .ok (.aload_n 2, 1) := dk_44 (dk_at dksJ16_copyOf_3_0 0 rfl rfl)
theorem dJ16_copyOf_3_1 : decode cJ16_copyOf_3 1 = .ok (.ldc 110, 2) := dk_18 110 (dk_at dksJ16_copyOf_3_0 1 rfl rfl)
theorem dJ16_copyOf_3_3 : decode cJ16_copyOf_3 3 = .ok (.if_acmp .ne 10, 3) := dk_166 0 10 (dk_at dksJ16_copyOf_3_0 3 rfl rfl)
theorem dJ16_copyOf_3_6 : decode cJ16_copyOf_3 6 = .ok (.iload_n 1, 1) := dk_27 (dk_at dksJ16_copyOf_3_0 6 rfl rfl)
theorem dJ16_copyOf_3_7 : decode cJ16_copyOf_3 7 = .ok (.anewarray 2, 3) := dk_189 0 2 (dk_at dksJ16_copyOf_3_0 7 rfl rfl)
theorem dJ16_copyOf_3_10 : decode cJ16_copyOf_3 10 = .ok (.goto 14, 3) := dk_167 0 14 (dk_at dksJ16_copyOf_3_0 10 rfl rfl)
theorem dJ16_copyOf_3_13 : decode cJ16_copyOf_3 13 = .ok (.aload_n 2, 1) := dk_44 (dk_at dksJ16_copyOf_3_0 13 rfl rfl)
theorem dJ16_copyOf_3_14 : decode cJ16_copyOf_3 14 = .ok (.invokevirtual 90, 3) := dk_182 0 90 (dk_at dksJ16_copyOf_3_0 14 rfl rfl)
theorem dJ16_copyOf_3_17 : decode cJ16_copyOf_3 17 = .ok (.iload_n 1, 1) := dk_27 (dk_at dksJ16_copyOf_3_0 17 rfl rfl)
theorem dJ16_copyOf_3_18 : decode cJ16_copyOf_3 18 = .ok (.invokestatic 95, 3) := dk_184 0 95 (dk_at dksJ16_copyOf_3_0 18 rfl rfl)
theorem dJ16_copyOf_3_21 : decode cJ16_copyOf_3 21 = .ok (.checkcast 110, 3) := dk_192 0 110 (dk_at dksJ16_copyOf_3_0 21 rfl rfl)
theorem dJ16_copyOf_3_24 : decode cJ16_copyOf_3 24 = .ok (.astore_n 3, 1) := dk_78 (dk_at dksJ16_copyOf_3_1 0 rfl rfl)
theorem dJ16_copyOf_3_25 : decode cJ16_copyOf_3 25 = .ok (.aload_n 0, 1) := dk_42 (dk_at dksJ16_copyOf_3_1 1 rfl rfl)
theorem dJ16_copyOf_3_26 : decode cJ16_copyOf_3 26 = .ok (.iconst 0, 1) := dk_3 (dk_at dksJ16_copyOf_3_1 2 rfl rfl)
theorem dJ16_copyOf_3_27 : decode cJ16_copyOf_3 27 = .ok (.aload_n 3, 1) := dk_45 (dk_at dksJ16_copyOf_3_1 3 rfl rfl)
theorem dJ16_copyOf_3_28 : decode cJ16_copyOf_3 28 = .ok (.iconst 0, 1) := dk_3 (dk_at dksJ16_copyOf_3_1 4 rfl rfl)
theorem dJ16_copyOf_3_29 : decode cJ16_copyOf_3 29 = .ok (.aload_n 0, 1) := dk_42 (dk_at dksJ16_copyOf_3_1 5 rfl rfl)
theorem dJ16_copyOf_3_30 : decode cJ16_copyOf_3 30 = .ok (.arraylength, 1) := dk_190 (dk_at dksJ16_copyOf_3_1 6 rfl rfl)
theorem dJ16_copyOf_3_31 : decode cJ16_copyOf_3 31 = .ok (.iload_n 1, 1) := dk_27 (dk_at dksJ16_copyOf_3_1 7 rfl rfl)
theorem dJ16_copyOf_3_32 : decode cJ16_copyOf_3 32 = .ok (.invokestatic 304, 3) := dk_184 1 48 (dk_at dksJ16_copyOf_3_1 8 rfl rfl)
theorem dJ16_copyOf_3_35 : decode cJ16_copyOf_3 35 = .ok (.invokestatic 150, 3) := dk_184 0 150 (dk_at dksJ16_copyOf_3_1 11 rfl rfl)
theorem dJ16_copyOf_3_38 : decode cJ16_copyOf_3 38 = .ok (.aload_n 3, 1) := dk_45 (dk_at dksJ16_copyOf_3_1 14 rfl rfl)
theorem dJ16_copyOf_3_39 : decode cJ16_copyOf_3 39 = .ok (.areturn, 1) := dk_176 (dk_at dksJ16_copyOf_3_1 15 rfl rfl)
abbrev cJ16_copyOf_4 : ByteArray := prog_53_method_124_code
def yJ16_copyOf_4 : MethodName := ⟨RJ16, "copyOf", "([JI)[J"⟩
def dkwJ16_copyOf_4_1 : List UInt8 := [27, 184, 1, 48, 184, 0, 150, 44, 176]
abbrev dktJ16_copyOf_4_1 : List UInt8 := dkwJ16_copyOf_4_1 ++ []
def dkwJ16_copyOf_4_0 : List UInt8 := [27, 42, 190, 160, 0, 11, 42, 182, 1, 63, 192, 1, 64, 176, 27, 188, 11, 77, 42, 3, 44, 3, 42, 190]
abbrev dktJ16_copyOf_4_0 : List UInt8 := dkwJ16_copyOf_4_0 ++ dktJ16_copyOf_4_1
theorem dksJ16_copyOf_4_0 : cJ16_copyOf_4.data.toList.drop 0 = dktJ16_copyOf_4_0 := by decide +kernel
theorem dksJ16_copyOf_4_1 : cJ16_copyOf_4.data.toList.drop 24 = dktJ16_copyOf_4_1 := dk_seg dksJ16_copyOf_4_0 24 rfl rfl
theorem dJ16_copyOf_4_0 : decode cJ16_copyOf_4 0 = .ok (.iload_n 1, 1) := dk_27 (dk_at dksJ16_copyOf_4_0 0 rfl rfl)
theorem dJ16_copyOf_4_1 : decode cJ16_copyOf_4 1 = .ok (.aload_n 0, 1) := dk_42 (dk_at dksJ16_copyOf_4_0 1 rfl rfl)
theorem dJ16_copyOf_4_2 : decode cJ16_copyOf_4 2 = .ok (.arraylength, 1) := dk_190 (dk_at dksJ16_copyOf_4_0 2 rfl rfl)
theorem dJ16_copyOf_4_3 : decode cJ16_copyOf_4 3 = .ok (.if_icmp .ne 11, 3) := dk_160 0 11 (dk_at dksJ16_copyOf_4_0 3 rfl rfl)
theorem dJ16_copyOf_4_6 : decode cJ16_copyOf_4 6 = .ok (.aload_n 0, 1) := dk_42 (dk_at dksJ16_copyOf_4_0 6 rfl rfl)
theorem dJ16_copyOf_4_7 : decode cJ16_copyOf_4 7 = .ok (.invokevirtual 319, 3) := dk_182 1 63 (dk_at dksJ16_copyOf_4_0 7 rfl rfl)
theorem dJ16_copyOf_4_10 : decode cJ16_copyOf_4 10 = .ok (.checkcast 320, 3) := dk_192 1 64 (dk_at dksJ16_copyOf_4_0 10 rfl rfl)
theorem dJ16_copyOf_4_13 : decode cJ16_copyOf_4 13 = .ok (.areturn, 1) := dk_176 (dk_at dksJ16_copyOf_4_0 13 rfl rfl)
theorem dJ16_copyOf_4_14 : decode cJ16_copyOf_4 14 = .ok (.iload_n 1, 1) := dk_27 (dk_at dksJ16_copyOf_4_0 14 rfl rfl)
theorem dJ16_copyOf_4_15 : decode cJ16_copyOf_4 15 = .ok (.newarray .long, 2) := dk_188_11 (dk_at dksJ16_copyOf_4_0 15 rfl rfl)
theorem dJ16_copyOf_4_17 : decode cJ16_copyOf_4 17 = .ok (.astore_n 2, 1) := dk_77 (dk_at dksJ16_copyOf_4_0 17 rfl rfl)
theorem dJ16_copyOf_4_18 : decode cJ16_copyOf_4 18 = .ok (.aload_n 0, 1) := dk_42 (dk_at dksJ16_copyOf_4_0 18 rfl rfl)
theorem dJ16_copyOf_4_19 : decode cJ16_copyOf_4 19 = .ok (.iconst 0, 1) := dk_3 (dk_at dksJ16_copyOf_4_0 19 rfl rfl)
theorem dJ16_copyOf_4_20 : decode cJ16_copyOf_4 20 = .ok (.aload_n 2, 1) := dk_44 (dk_at dksJ16_copyOf_4_0 20 rfl rfl)
theorem dJ16_copyOf_4_21 : decode cJ16_copyOf_4 21 = .ok (.iconst 0, 1) := dk_3 (dk_at dksJ16_copyOf_4_0 21 rfl rfl)
theorem dJ16_copyOf_4_22 : decode cJ16_copyOf_4 22 = .ok (.aload_n 0, 1) := dk_42 (dk_at dksJ16_copyOf_4_0 22 rfl rfl)
theorem dJ16_copyOf_4_23 : decode cJ16_copyOf_4 23 = .ok (.arraylength, 1) := dk_190 (dk_at dksJ16_copyOf_4_0 23 rfl rfl)
theorem dJ16_copyOf_4_24 : decode cJ16_copyOf_4 24 = .ok (.iload_n 1, 1) := dk_27 (dk_at dksJ16_copyOf_4_1 0 rfl rfl)
theorem dJ16_copyOf_4_25 : decode cJ16_copyOf_4 25 = .ok (.invokestatic 304, 3) := dk_184 1 48 (dk_at dksJ16_copyOf_4_1 1 rfl rfl)
theorem dJ16_copyOf_4_28 : decode cJ16_copyOf_4 28 = .ok (.invokestatic 150, 3) := dk_184 0 150 (dk_at dksJ16_copyOf_4_1 4 rfl rfl)
theorem dJ16_copyOf_4_31 : decode cJ16_copyOf_4 31 = .ok (.aload_n 2, 1) := dk_44 (dk_at dksJ16_copyOf_4_1 7 rfl rfl)
theorem dJ16_copyOf_4_32 : decode cJ16_copyOf_4 32 = .ok (.areturn, 1) := dk_176 (dk_at dksJ16_copyOf_4_1 8 rfl rfl)
abbrev cJ16_fill : ByteArray := prog_53_method_110_code
def yJ16_fill : MethodName := ⟨RJ16, "fill", "([BIIB)V"⟩
def dkwJ16_fill_1 : List UInt8 := [167, 255, 242, 177]
abbrev dktJ16_fill_1 : List UInt8 := dkwJ16_fill_1 ++ []
def dkwJ16_fill_0 : List UInt8 := [42, 190, 27, 28, 184, 0, 13, 27, 54, 4, 21, 4, 28, 162, 0, 14, 42, 21, 4, 29, 84, 132, 4, 1]
abbrev dktJ16_fill_0 : List UInt8 := dkwJ16_fill_0 ++ dktJ16_fill_1
theorem dksJ16_fill_0 : cJ16_fill.data.toList.drop 0 = dktJ16_fill_0 := by decide +kernel
theorem dksJ16_fill_1 : cJ16_fill.data.toList.drop 24 = dktJ16_fill_1 := dk_seg dksJ16_fill_0 24 rfl rfl
theorem dJ16_fill_0 : decode cJ16_fill 0 = .ok (.aload_n 0, 1) := dk_42 (dk_at dksJ16_fill_0 0 rfl rfl)
theorem dJ16_fill_1 : decode cJ16_fill 1 = .ok (.arraylength, 1) := dk_190 (dk_at dksJ16_fill_0 1 rfl rfl)
theorem dJ16_fill_2 : decode cJ16_fill 2 = .ok (.iload_n 1, 1) := dk_27 (dk_at dksJ16_fill_0 2 rfl rfl)
theorem dJ16_fill_3 : decode cJ16_fill 3 = .ok (.iload_n 2, 1) := dk_28 (dk_at dksJ16_fill_0 3 rfl rfl)
theorem dJ16_fill_4 : decode cJ16_fill 4 = .ok (.invokestatic 13, 3) := dk_184 0 13 (dk_at dksJ16_fill_0 4 rfl rfl)
theorem dJ16_fill_7 : decode cJ16_fill 7 = .ok (.iload_n 1, 1) := dk_27 (dk_at dksJ16_fill_0 7 rfl rfl)
theorem dJ16_fill_8 : decode cJ16_fill 8 = .ok (.istore 4, 2) := dk_54 4 (dk_at dksJ16_fill_0 8 rfl rfl)
theorem dJ16_fill_10 : decode cJ16_fill 10 = .ok (.iload 4, 2) := dk_21 4 (dk_at dksJ16_fill_0 10 rfl rfl)
theorem dJ16_fill_12 : decode cJ16_fill 12 = .ok (.iload_n 2, 1) := dk_28 (dk_at dksJ16_fill_0 12 rfl rfl)
theorem dJ16_fill_13 : decode cJ16_fill 13 = .ok (.if_icmp .ge 14, 3) := dk_162 0 14 (dk_at dksJ16_fill_0 13 rfl rfl)
theorem dJ16_fill_16 : decode cJ16_fill 16 = .ok (.aload_n 0, 1) := dk_42 (dk_at dksJ16_fill_0 16 rfl rfl)
theorem dJ16_fill_17 : decode cJ16_fill 17 = .ok (.iload 4, 2) := dk_21 4 (dk_at dksJ16_fill_0 17 rfl rfl)
theorem dJ16_fill_19 : decode cJ16_fill 19 = .ok (.iload_n 3, 1) := dk_29 (dk_at dksJ16_fill_0 19 rfl rfl)
theorem dJ16_fill_20 : decode cJ16_fill 20 = .ok (.bastore, 1) := dk_84 (dk_at dksJ16_fill_0 20 rfl rfl)
theorem dJ16_fill_21 : decode cJ16_fill 21 = .ok (.iinc 4 1, 3) := dk_132 4 1 (dk_at dksJ16_fill_0 21 rfl rfl)
theorem dJ16_fill_24 : decode cJ16_fill 24 = .ok (.goto (-14), 3) := dk_167 255 242 (dk_at dksJ16_fill_1 0 rfl rfl)
theorem dJ16_fill_27 : decode cJ16_fill 27 = .ok (.return_, 1) := dk_177 (dk_at dksJ16_fill_1 3 rfl rfl)
abbrev cJ16_rangeCheck : ByteArray := prog_53_method_30_code
def yJ16_rangeCheck : MethodName := ⟨RJ16, "rangeCheck", "(III)V"⟩
def dkwJ16_rangeCheck_3 : List UInt8 := [183, 0, 70, 191, 177]
abbrev dktJ16_rangeCheck_3 : List UInt8 := dkwJ16_rangeCheck_3 ++ []
def dkwJ16_rangeCheck_2 : List UInt8 := [27, 156, 0, 12, 187, 0, 68, 89, 27, 183, 0, 70, 191, 28, 26, 164, 0, 12, 187, 0, 68, 89, 28]
abbrev dktJ16_rangeCheck_2 : List UInt8 := dkwJ16_rangeCheck_2 ++ dktJ16_rangeCheck_3
def dkwJ16_rangeCheck_1 : List UInt8 := [182, 0, 54, 18, 57, 182, 0, 50, 28, 182, 0, 54, 18, 59, 182, 0, 50, 182, 0, 61, 183, 0, 65, 191]
abbrev dktJ16_rangeCheck_1 : List UInt8 := dkwJ16_rangeCheck_1 ++ dktJ16_rangeCheck_2
def dkwJ16_rangeCheck_0 : List UInt8 := [27, 28, 164, 0, 44, 187, 0, 43, 89, 187, 0, 45, 89, 183, 0, 47, 18, 48, 182, 0, 50, 27]
abbrev dktJ16_rangeCheck_0 : List UInt8 := dkwJ16_rangeCheck_0 ++ dktJ16_rangeCheck_1
theorem dksJ16_rangeCheck_0 : cJ16_rangeCheck.data.toList.drop 0 = dktJ16_rangeCheck_0 := by decide +kernel
theorem dksJ16_rangeCheck_1 : cJ16_rangeCheck.data.toList.drop 22 = dktJ16_rangeCheck_1 := dk_seg dksJ16_rangeCheck_0 22 rfl rfl
theorem dksJ16_rangeCheck_2 : cJ16_rangeCheck.data.toList.drop 46 = dktJ16_rangeCheck_2 := dk_seg dksJ16_rangeCheck_1 24 rfl rfl
theorem dksJ16_rangeCheck_3 : cJ16_rangeCheck.data.toList.drop 69 = dktJ16_rangeCheck_3 := dk_seg dksJ16_rangeCheck_2 23 rfl rfl
theorem dJ16_rangeCheck_0 : decode cJ16_rangeCheck 0 = .ok (.iload_n 1, 1) := dk_27 (dk_at dksJ16_rangeCheck_0 0 rfl rfl)
theorem dJ16_rangeCheck_1 : decode cJ16_rangeCheck 1 = .ok (.iload_n 2, 1) := dk_28 (dk_at dksJ16_rangeCheck_0 1 rfl rfl)
theorem dJ16_rangeCheck_2 : decode cJ16_rangeCheck 2 = .ok (.if_icmp .le 44, 3) := dk_164 0 44 (dk_at dksJ16_rangeCheck_0 2 rfl rfl)
theorem dJ16_rangeCheck_5 : decode cJ16_rangeCheck 5 = .ok (.new 43, 3) := dk_187 0 43 (dk_at dksJ16_rangeCheck_0 5 rfl rfl)
theorem dJ16_rangeCheck_8 : decode cJ16_rangeCheck 8 = .ok (.dup, 1) := dk_89 (dk_at dksJ16_rangeCheck_0 8 rfl rfl)
theorem dJ16_rangeCheck_9 : decode cJ16_rangeCheck 9 = .ok (.new 45, 3) := dk_187 0 45 (dk_at dksJ16_rangeCheck_0 9 rfl rfl)
theorem dJ16_rangeCheck_12 : decode cJ16_rangeCheck 12 = .ok (.dup, 1) := dk_89 (dk_at dksJ16_rangeCheck_0 12 rfl rfl)
theorem dJ16_rangeCheck_13 : decode cJ16_rangeCheck 13 = .ok (.invokespecial 47, 3) := dk_183 0 47 (dk_at dksJ16_rangeCheck_0 13 rfl rfl)
theorem dJ16_rangeCheck_16 : decode cJ16_rangeCheck 16 = .ok (.ldc 48, 2) := dk_18 48 (dk_at dksJ16_rangeCheck_0 16 rfl rfl)
theorem dJ16_rangeCheck_18 : decode cJ16_rangeCheck 18 = .ok (.invokevirtual 50, 3) := dk_182 0 50 (dk_at dksJ16_rangeCheck_0 18 rfl rfl)
theorem dJ16_rangeCheck_21 : decode cJ16_rangeCheck 21 = .ok (.iload_n 1, 1) := dk_27 (dk_at dksJ16_rangeCheck_0 21 rfl rfl)
theorem dJ16_rangeCheck_22 : decode cJ16_rangeCheck 22 = .ok (.invokevirtual 54, 3) := dk_182 0 54 (dk_at dksJ16_rangeCheck_1 0 rfl rfl)
theorem dJ16_rangeCheck_25 : decode cJ16_rangeCheck 25 = .ok (.ldc 57, 2) := dk_18 57 (dk_at dksJ16_rangeCheck_1 3 rfl rfl)
theorem dJ16_rangeCheck_27 : decode cJ16_rangeCheck 27 = .ok (.invokevirtual 50, 3) := dk_182 0 50 (dk_at dksJ16_rangeCheck_1 5 rfl rfl)
theorem dJ16_rangeCheck_30 : decode cJ16_rangeCheck 30 = .ok (.iload_n 2, 1) := dk_28 (dk_at dksJ16_rangeCheck_1 8 rfl rfl)
theorem dJ16_rangeCheck_31 : decode cJ16_rangeCheck 31 = .ok (.invokevirtual 54, 3) := dk_182 0 54 (dk_at dksJ16_rangeCheck_1 9 rfl rfl)
theorem dJ16_rangeCheck_34 : decode cJ16_rangeCheck 34 = .ok (.ldc 59, 2) := dk_18 59 (dk_at dksJ16_rangeCheck_1 12 rfl rfl)
theorem dJ16_rangeCheck_36 : decode cJ16_rangeCheck 36 = .ok (.invokevirtual 50, 3) := dk_182 0 50 (dk_at dksJ16_rangeCheck_1 14 rfl rfl)
theorem dJ16_rangeCheck_39 : decode cJ16_rangeCheck 39 = .ok (.invokevirtual 61, 3) := dk_182 0 61 (dk_at dksJ16_rangeCheck_1 17 rfl rfl)
theorem dJ16_rangeCheck_42 : decode cJ16_rangeCheck 42 = .ok (.invokespecial 65, 3) := dk_183 0 65 (dk_at dksJ16_rangeCheck_1 20 rfl rfl)
theorem dJ16_rangeCheck_45 : decode cJ16_rangeCheck 45 = .ok (.athrow, 1) := dk_191 (dk_at dksJ16_rangeCheck_1 23 rfl rfl)
theorem dJ16_rangeCheck_46 : decode cJ16_rangeCheck 46 = .ok (.iload_n 1, 1) := dk_27 (dk_at dksJ16_rangeCheck_2 0 rfl rfl)
theorem dJ16_rangeCheck_47 : decode cJ16_rangeCheck 47 = .ok (.ifCond .ge 12, 3) := dk_156 0 12 (dk_at dksJ16_rangeCheck_2 1 rfl rfl)
theorem dJ16_rangeCheck_50 : decode cJ16_rangeCheck 50 = .ok (.new 68, 3) := dk_187 0 68 (dk_at dksJ16_rangeCheck_2 4 rfl rfl)
theorem dJ16_rangeCheck_53 : decode cJ16_rangeCheck 53 = .ok (.dup, 1) := dk_89 (dk_at dksJ16_rangeCheck_2 7 rfl rfl)
theorem dJ16_rangeCheck_54 : decode cJ16_rangeCheck 54 = .ok (.iload_n 1, 1) := dk_27 (dk_at dksJ16_rangeCheck_2 8 rfl rfl)
theorem dJ16_rangeCheck_55 : decode cJ16_rangeCheck 55 = .ok (.invokespecial 70, 3) := dk_183 0 70 (dk_at dksJ16_rangeCheck_2 9 rfl rfl)
theorem dJ16_rangeCheck_58 : decode cJ16_rangeCheck 58 = .ok (.athrow, 1) := dk_191 (dk_at dksJ16_rangeCheck_2 12 rfl rfl)
theorem dJ16_rangeCheck_59 : decode cJ16_rangeCheck 59 = .ok (.iload_n 2, 1) := dk_28 (dk_at dksJ16_rangeCheck_2 13 rfl rfl)
theorem dJ16_rangeCheck_60 : decode cJ16_rangeCheck 60 = .ok (.iload_n 0, 1) := dk_26 (dk_at dksJ16_rangeCheck_2 14 rfl rfl)
theorem dJ16_rangeCheck_61 : decode cJ16_rangeCheck 61 = .ok (.if_icmp .le 12, 3) := dk_164 0 12 (dk_at dksJ16_rangeCheck_2 15 rfl rfl)
theorem dJ16_rangeCheck_64 : decode cJ16_rangeCheck 64 = .ok (.new 68, 3) := dk_187 0 68 (dk_at dksJ16_rangeCheck_2 18 rfl rfl)
theorem dJ16_rangeCheck_67 : decode cJ16_rangeCheck 67 = .ok (.dup, 1) := dk_89 (dk_at dksJ16_rangeCheck_2 21 rfl rfl)
theorem dJ16_rangeCheck_68 : decode cJ16_rangeCheck 68 = .ok (.iload_n 2, 1) := dk_28 (dk_at dksJ16_rangeCheck_2 22 rfl rfl)
theorem dJ16_rangeCheck_69 : decode cJ16_rangeCheck 69 = .ok (.invokespecial 70, 3) := dk_183 0 70 (dk_at dksJ16_rangeCheck_3 0 rfl rfl)
theorem dJ16_rangeCheck_72 : decode cJ16_rangeCheck 72 = .ok (.athrow, 1) := dk_191 (dk_at dksJ16_rangeCheck_3 3 rfl rfl)
theorem dJ16_rangeCheck_73 : decode cJ16_rangeCheck 73 = .ok (.return_, 1) := dk_177 (dk_at dksJ16_rangeCheck_3 4 rfl rfl)

/-! decode rows: J17.jdk_internal_util_Preconditions.lean.txt -/
set_option maxRecDepth 100000
abbrev cJ17_checkFromToIndex : ByteArray := prog_76_method_12_code
def yJ17_checkFromToIndex : MethodName := ⟨RJ17, "checkFromToIndex", "(IIILjava/util/function/BiFunction;)I"⟩
def dkwJ17_checkFromToIndex_0 : List UInt8 := [26, 155, 0, 13, 26, 27, 163, 0, 8, 27, 28, 164, 0, 11, 45, 26, 27, 28, 184, 0, 99, 191, 26, 172]
abbrev dktJ17_checkFromToIndex_0 : List UInt8 := dkwJ17_checkFromToIndex_0 ++ []
theorem dksJ17_checkFromToIndex_0 : cJ17_checkFromToIndex.data.toList.drop 0 = dktJ17_checkFromToIndex_0 := by decide +kernel
theorem dJ17_checkFromToIndex_0 : decode cJ17_checkFromToIndex 0 = .ok (.iload_n 0, 1) := dk_26 (dk_at dksJ17_checkFromToIndex_0 0 rfl rfl)
theorem dJ17_checkFromToIndex_1 : decode cJ17_checkFromToIndex 1 = .ok (.ifCond .lt 13, 3) := dk_155 0 13 (dk_at dksJ17_checkFromToIndex_0 1 rfl rfl)
theorem dJ17_checkFromToIndex_4 : decode cJ17_checkFromToIndex 4 = .ok (.iload_n 0, 1) := dk_26 (dk_at dksJ17_checkFromToIndex_0 4 rfl rfl)
theorem dJ17_checkFromToIndex_5 : decode cJ17_checkFromToIndex 5 = .ok (.iload_n 1, 1) := dk_27 (dk_at dksJ17_checkFromToIndex_0 5 rfl rfl)
theorem dJ17_checkFromToIndex_6 : decode cJ17_checkFromToIndex 6 = .ok (.if_icmp .gt 8, 3) := dk_163 0 8 (dk_at dksJ17_checkFromToIndex_0 6 rfl rfl)
theorem dJ17_checkFromToIndex_9 : decode cJ17_checkFromToIndex 9 = .ok (.iload_n 1, 1) := dk_27 (dk_at dksJ17_checkFromToIndex_0 9 rfl rfl)
theorem dJ17_checkFromToIndex_10 : decode cJ17_checkFromToIndex 10 = .ok (.iload_n 2, 1) := dk_28 (dk_at dksJ17_checkFromToIndex_0 10 rfl rfl)
theorem dJ17_checkFromToIndex_11 : decode cJ17_checkFromToIndex 11 = .ok (.if_icmp .le 11, 3) := dk_164 0 11 (dk_at dksJ17_checkFromToIndex_0 11 rfl rfl)
theorem dJ17_checkFromToIndex_14 : decode cJ17_checkFromToIndex 14 = .ok (.aload_n 3, 1) := dk_45 (dk_at dksJ17_checkFromToIndex_0 14 rfl rfl)
theorem dJ17_checkFromToIndex_15 : decode cJ17_checkFromToIndex 15 = .ok (.iload_n 0, 1) := dk_26 (dk_at dksJ17_checkFromToIndex_0 15 rfl rfl)
theorem dJ17_checkFromToIndex_16 : decode cJ17_checkFromToIndex 16 = .ok (.iload_n 1, 1) := dk_27 (dk_at dksJ17_checkFromToIndex_0 16 rfl rfl)
theorem dJ17_checkFromToIndex_17 : decode cJ17_checkFromToIndex 17 = .ok (.iload_n 2, 1) := dk_28 (dk_at dksJ17_checkFromToIndex_0 17 rfl rfl)
theorem dJ17_checkFromToIndex_18 : decode cJ17_checkFromToIndex 18 = .ok (.invokestatic 99, 3) := dk_184 0 99 (dk_at dksJ17_checkFromToIndex_0 18 rfl rfl)
theorem dJ17_checkFromToIndex_21 : decode cJ17_checkFromToIndex 21 = .ok (.athrow, 1) := dk_191 (dk_at dksJ17_checkFromToIndex_0 21 rfl rfl)
theorem dJ17_checkFromToIndex_22 : decode cJ17_checkFromToIndex 22 = .ok (.iload_n 0, 1) := dk_26 (dk_at dksJ17_checkFromToIndex_0 22 rfl rfl)
theorem dJ17_checkFromToIndex_23 : decode cJ17_checkFromToIndex 23 = .ok (.ireturn, 1) := dk_172 (dk_at dksJ17_checkFromToIndex_0 23 rfl rfl)
abbrev cJ17_checkFromIndexSize : ByteArray := prog_76_method_13_code
def yJ17_checkFromIndexSize : MethodName := ⟨RJ17, "checkFromIndexSize", "(IIILjava/util/function/BiFunction;)I"⟩
def dkwJ17_checkFromIndexSize_1 : List UInt8 := [172]
abbrev dktJ17_checkFromIndexSize_1 : List UInt8 := dkwJ17_checkFromIndexSize_1 ++ []
def dkwJ17_checkFromIndexSize_0 : List UInt8 := [28, 26, 128, 27, 128, 155, 0, 10, 27, 28, 26, 100, 164, 0, 11, 45, 26, 27, 28, 184, 0, 103, 191, 26]
abbrev dktJ17_checkFromIndexSize_0 : List UInt8 := dkwJ17_checkFromIndexSize_0 ++ dktJ17_checkFromIndexSize_1
theorem dksJ17_checkFromIndexSize_0 : cJ17_checkFromIndexSize.data.toList.drop 0 = dktJ17_checkFromIndexSize_0 := by decide +kernel
theorem dksJ17_checkFromIndexSize_1 : cJ17_checkFromIndexSize.data.toList.drop 24 = dktJ17_checkFromIndexSize_1 := dk_seg dksJ17_checkFromIndexSize_0 24 rfl rfl
theorem dJ17_checkFromIndexSize_0 : decode cJ17_checkFromIndexSize 0 = .ok (.iload_n 2, 1) := dk_28 (dk_at dksJ17_checkFromIndexSize_0 0 rfl rfl)
theorem dJ17_checkFromIndexSize_1 : decode cJ17_checkFromIndexSize 1 = .ok (.iload_n 0, 1) := dk_26 (dk_at dksJ17_checkFromIndexSize_0 1 rfl rfl)
theorem dJ17_checkFromIndexSize_2 : decode cJ17_checkFromIndexSize 2 = .ok (.ior, 1) := dk_128 (dk_at dksJ17_checkFromIndexSize_0 2 rfl rfl)
theorem dJ17_checkFromIndexSize_3 : decode cJ17_checkFromIndexSize 3 = .ok (.iload_n 1, 1) := dk_27 (dk_at dksJ17_checkFromIndexSize_0 3 rfl rfl)
theorem dJ17_checkFromIndexSize_4 : decode cJ17_checkFromIndexSize 4 = .ok (.ior, 1) := dk_128 (dk_at dksJ17_checkFromIndexSize_0 4 rfl rfl)
theorem dJ17_checkFromIndexSize_5 : decode cJ17_checkFromIndexSize 5 = .ok (.ifCond .lt 10, 3) := dk_155 0 10 (dk_at dksJ17_checkFromIndexSize_0 5 rfl rfl)
theorem dJ17_checkFromIndexSize_8 : decode cJ17_checkFromIndexSize 8 = .ok (.iload_n 1, 1) := dk_27 (dk_at dksJ17_checkFromIndexSize_0 8 rfl rfl)
theorem dJ17_checkFromIndexSize_9 : decode cJ17_checkFromIndexSize 9 = .ok (.iload_n 2, 1) := dk_28 (dk_at dksJ17_checkFromIndexSize_0 9 rfl rfl)
theorem dJ17_checkFromIndexSize_10 : decode cJ17_checkFromIndexSize 10 = .ok (.iload_n 0, 1) := dk_26 (dk_at dksJ17_checkFromIndexSize_0 10 rfl rfl)
theorem dJ17_checkFromIndexSize_11 : decode cJ17_checkFromIndexSize 11 = .ok (.isub, 1) := dk_100 (dk_at dksJ17_checkFromIndexSize_0 11 rfl rfl)
theorem dJ17_checkFromIndexSize_12 : decode cJ17_checkFromIndexSize 12 = .ok (.if_icmp .le 11, 3) := dk_164 0 11 (dk_at dksJ17_checkFromIndexSize_0 12 rfl rfl)
theorem dJ17_checkFromIndexSize_15 : decode cJ17_checkFromIndexSize 15 = .ok (.aload_n 3, 1) := dk_45 (dk_at dksJ17_checkFromIndexSize_0 15 rfl rfl)
theorem dJ17_checkFromIndexSize_16 : decode cJ17_checkFromIndexSize 16 = .ok (.iload_n 0, 1) := dk_26 (dk_at dksJ17_checkFromIndexSize_0 16 rfl rfl)
theorem dJ17_checkFromIndexSize_17 : decode cJ17_checkFromIndexSize 17 = .ok (.iload_n 1, 1) := dk_27 (dk_at dksJ17_checkFromIndexSize_0 17 rfl rfl)
theorem dJ17_checkFromIndexSize_18 : decode cJ17_checkFromIndexSize 18 = .ok (.iload_n 2, 1) := dk_28 (dk_at dksJ17_checkFromIndexSize_0 18 rfl rfl)
theorem dJ17_checkFromIndexSize_19 : decode cJ17_checkFromIndexSize 19 = .ok (.invokestatic 103, 3) := dk_184 0 103 (dk_at dksJ17_checkFromIndexSize_0 19 rfl rfl)
theorem dJ17_checkFromIndexSize_22 : decode cJ17_checkFromIndexSize 22 = .ok (.athrow, 1) := dk_191 (dk_at dksJ17_checkFromIndexSize_0 22 rfl rfl)
theorem dJ17_checkFromIndexSize_23 : decode cJ17_checkFromIndexSize 23 = .ok (.iload_n 0, 1) := dk_26 (dk_at dksJ17_checkFromIndexSize_0 23 rfl rfl)
theorem dJ17_checkFromIndexSize_24 : decode cJ17_checkFromIndexSize 24 = .ok (.ireturn, 1) := dk_172 (dk_at dksJ17_checkFromIndexSize_1 0 rfl rfl)
abbrev cJ17_checkIndex : ByteArray := prog_76_method_11_code
def yJ17_checkIndex : MethodName := ⟨RJ17, "checkIndex", "(IILjava/util/function/BiFunction;)I"⟩
def dkwJ17_checkIndex_0 : List UInt8 := [26, 155, 0, 8, 26, 27, 161, 0, 10, 44, 26, 27, 184, 0, 95, 191, 26, 172]
abbrev dktJ17_checkIndex_0 : List UInt8 := dkwJ17_checkIndex_0 ++ []
theorem dksJ17_checkIndex_0 : cJ17_checkIndex.data.toList.drop 0 = dktJ17_checkIndex_0 := by decide +kernel
theorem dJ17_checkIndex_0 : decode cJ17_checkIndex 0 = .ok (.iload_n 0, 1) := dk_26 (dk_at dksJ17_checkIndex_0 0 rfl rfl)
theorem dJ17_checkIndex_1 : decode cJ17_checkIndex 1 = .ok (.ifCond .lt 8, 3) := dk_155 0 8 (dk_at dksJ17_checkIndex_0 1 rfl rfl)
theorem dJ17_checkIndex_4 : decode cJ17_checkIndex 4 = .ok (.iload_n 0, 1) := dk_26 (dk_at dksJ17_checkIndex_0 4 rfl rfl)
theorem dJ17_checkIndex_5 : decode cJ17_checkIndex 5 = .ok (.iload_n 1, 1) := dk_27 (dk_at dksJ17_checkIndex_0 5 rfl rfl)
theorem dJ17_checkIndex_6 : decode cJ17_checkIndex 6 = .ok (.if_icmp .lt 10, 3) := dk_161 0 10 (dk_at dksJ17_checkIndex_0 6 rfl rfl)
theorem dJ17_checkIndex_9 : decode cJ17_checkIndex 9 = .ok (.aload_n 2, 1) := dk_44 (dk_at dksJ17_checkIndex_0 9 rfl rfl)
theorem dJ17_checkIndex_10 : decode cJ17_checkIndex 10 = .ok (.iload_n 0, 1) := dk_26 (dk_at dksJ17_checkIndex_0 10 rfl rfl)
theorem dJ17_checkIndex_11 : decode cJ17_checkIndex 11 = .ok (.iload_n 1, 1) := dk_27 (dk_at dksJ17_checkIndex_0 11 rfl rfl)
theorem dJ17_checkIndex_12 : decode cJ17_checkIndex 12 = .ok (.invokestatic 95, 3) := dk_184 0 95 (dk_at dksJ17_checkIndex_0 12 rfl rfl)
theorem dJ17_checkIndex_15 : decode cJ17_checkIndex 15 = .ok (.athrow, 1) := dk_191 (dk_at dksJ17_checkIndex_0 15 rfl rfl)
theorem dJ17_checkIndex_16 : decode cJ17_checkIndex 16 = .ok (.iload_n 0, 1) := dk_26 (dk_at dksJ17_checkIndex_0 16 rfl rfl)
theorem dJ17_checkIndex_17 : decode cJ17_checkIndex 17 = .ok (.ireturn, 1) := dk_172 (dk_at dksJ17_checkIndex_0 17 rfl rfl)

/-! decode rows: J18.java_lang_StringLatin1.lean.txt -/
set_option maxRecDepth 100000
abbrev cJ18_inflate : ByteArray := prog_37_method_50_code
def yJ18_inflate : MethodName := ⟨RJ18, "inflate", "([BI[BII)V"⟩
def dkwJ18_inflate_0 : List UInt8 := [42, 27, 44, 29, 21, 4, 184, 0, 240, 177]
abbrev dktJ18_inflate_0 : List UInt8 := dkwJ18_inflate_0 ++ []
theorem dksJ18_inflate_0 : cJ18_inflate.data.toList.drop 0 = dktJ18_inflate_0 := by decide +kernel
theorem dJ18_inflate_0 : decode cJ18_inflate 0 = .ok (.aload_n 0, 1) := dk_42 (dk_at dksJ18_inflate_0 0 rfl rfl)
theorem dJ18_inflate_1 : decode cJ18_inflate 1 = .ok (.iload_n 1, 1) := dk_27 (dk_at dksJ18_inflate_0 1 rfl rfl)
theorem dJ18_inflate_2 : decode cJ18_inflate 2 = .ok (.aload_n 2, 1) := dk_44 (dk_at dksJ18_inflate_0 2 rfl rfl)
theorem dJ18_inflate_3 : decode cJ18_inflate 3 = .ok (.iload_n 3, 1) := dk_29 (dk_at dksJ18_inflate_0 3 rfl rfl)
theorem dJ18_inflate_4 : decode cJ18_inflate 4 = .ok (.iload 4, 2) := dk_21 4 (dk_at dksJ18_inflate_0 4 rfl rfl)
theorem dJ18_inflate_6 : decode cJ18_inflate 6 = .ok (.invokestatic 240, 3) := dk_184 0 240 (dk_at dksJ18_inflate_0 6 rfl rfl)
theorem dJ18_inflate_9 : decode cJ18_inflate 9 = .ok (.return_, 1) := dk_177 (dk_at dksJ18_inflate_0 9 rfl rfl)
abbrev cJ18_canEncode : ByteArray := prog_37_method_3_code
def yJ18_canEncode : MethodName := ⟨RJ18, "canEncode", "(C)Z"⟩
def dkwJ18_canEncode_0 : List UInt8 := [26, 17, 0, 255, 163, 0, 7, 4, 167, 0, 4, 3, 172]
abbrev dktJ18_canEncode_0 : List UInt8 := dkwJ18_canEncode_0 ++ []
theorem dksJ18_canEncode_0 : cJ18_canEncode.data.toList.drop 0 = dktJ18_canEncode_0 := by decide +kernel
theorem dJ18_canEncode_0 : decode cJ18_canEncode 0 = .ok (.iload_n 0, 1) := dk_26 (dk_at dksJ18_canEncode_0 0 rfl rfl)
theorem dJ18_canEncode_1 : decode cJ18_canEncode 1 = .ok (.sipush 255, 3) := dk_17 0 255 (dk_at dksJ18_canEncode_0 1 rfl rfl)
theorem dJ18_canEncode_4 : decode cJ18_canEncode 4 = .ok (.if_icmp .gt 7, 3) := dk_163 0 7 (dk_at dksJ18_canEncode_0 4 rfl rfl)
theorem dJ18_canEncode_7 : decode cJ18_canEncode 7 = .ok (.iconst 1, 1) := dk_4 (dk_at dksJ18_canEncode_0 7 rfl rfl)
theorem dJ18_canEncode_8 : decode cJ18_canEncode 8 = .ok (.goto 4, 3) := dk_167 0 4 (dk_at dksJ18_canEncode_0 8 rfl rfl)
theorem dJ18_canEncode_11 : decode cJ18_canEncode 11 = .ok (.iconst 0, 1) := dk_3 (dk_at dksJ18_canEncode_0 11 rfl rfl)
theorem dJ18_canEncode_12 : decode cJ18_canEncode 12 = .ok (.ireturn, 1) := dk_172 (dk_at dksJ18_canEncode_0 12 rfl rfl)
abbrev cJ18_equals : ByteArray := prog_37_method_13_code
def yJ18_equals : MethodName := ⟨RJ18, "equals", "([B[B)Z"⟩
def dkwJ18_equals_1 : List UInt8 := [3, 172, 132, 2, 1, 167, 255, 236, 4, 172, 3, 172]
abbrev dktJ18_equals_1 : List UInt8 := dkwJ18_equals_1 ++ []
def dkwJ18_equals_0 : List UInt8 := [42, 190, 43, 190, 160, 0, 30, 3, 61, 28, 42, 190, 162, 0, 20, 42, 28, 51, 43, 28, 51, 159, 0, 5]
abbrev dktJ18_equals_0 : List UInt8 := dkwJ18_equals_0 ++ dktJ18_equals_1
theorem dksJ18_equals_0 : cJ18_equals.data.toList.drop 0 = dktJ18_equals_0 := by decide +kernel
theorem dksJ18_equals_1 : cJ18_equals.data.toList.drop 24 = dktJ18_equals_1 := dk_seg dksJ18_equals_0 24 rfl rfl
theorem dJ18_equals_0 : decode cJ18_equals 0 = .ok (.aload_n 0, 1) := dk_42 (dk_at dksJ18_equals_0 0 rfl rfl)
theorem dJ18_equals_1 : decode cJ18_equals 1 = .ok (.arraylength, 1) := dk_190 (dk_at dksJ18_equals_0 1 rfl rfl)
theorem dJ18_equals_2 : decode cJ18_equals 2 = .ok (.aload_n 1, 1) := dk_43 (dk_at dksJ18_equals_0 2 rfl rfl)
theorem dJ18_equals_3 : decode cJ18_equals 3 = .ok (.arraylength, 1) := dk_190 (dk_at dksJ18_equals_0 3 rfl rfl)
theorem dJ18_equals_4 : decode cJ18_equals 4 = .ok (.if_icmp .ne 30, 3) := dk_160 0 30 (dk_at dksJ18_equals_0 4 rfl rfl)
theorem dJ18_equals_7 : decode cJ18_equals 7 = .ok (.iconst 0, 1) := dk_3 (dk_at dksJ18_equals_0 7 rfl rfl)
theorem dJ18_equals_8 : decode cJ18_equals 8 = .ok (.istore_n 2, 1) := dk_61 (dk_at dksJ18_equals_0 8 rfl rfl)
theorem dJ18_equals_9 : decode cJ18_equals 9 = .ok (.iload_n 2, 1) := dk_28 (dk_at dksJ18_equals_0 9 rfl rfl)
theorem dJ18_equals_10 : decode cJ18_equals 10 = .ok (.aload_n 0, 1) := dk_42 (dk_at dksJ18_equals_0 10 rfl rfl)
theorem dJ18_equals_11 : decode cJ18_equals 11 = .ok (.arraylength, 1) := dk_190 (dk_at dksJ18_equals_0 11 rfl rfl)
theorem dJ18_equals_12 : decode cJ18_equals 12 = .ok (.if_icmp .ge 20, 3) := dk_162 0 20 (dk_at dksJ18_equals_0 12 rfl rfl)
theorem dJ18_equals_15 : decode cJ18_equals 15 = .ok (.aload_n 0, 1) := dk_42 (dk_at dksJ18_equals_0 15 rfl rfl)
theorem dJ18_equals_16 : decode cJ18_equals 16 = .ok (.iload_n 2, 1) := dk_28 (dk_at dksJ18_equals_0 16 rfl rfl)
theorem dJ18_equals_17 : decode cJ18_equals 17 = .ok (.baload, 1) := dk_51 (dk_at dksJ18_equals_0 17 rfl rfl)
theorem dJ18_equals_18 : decode cJ18_equals 18 = .ok (.aload_n 1, 1) := dk_43 (dk_at dksJ18_equals_0 18 rfl rfl)
theorem dJ18_equals_19 : decode cJ18_equals 19 = .ok (.iload_n 2, 1) := dk_28 (dk_at dksJ18_equals_0 19 rfl rfl)
theorem dJ18_equals_20 : decode cJ18_equals 20 = .ok (.baload, 1) := dk_51 (dk_at dksJ18_equals_0 20 rfl rfl)
theorem dJ18_equals_21 : decode cJ18_equals 21 = .ok (.if_icmp .eq 5, 3) := dk_159 0 5 (dk_at dksJ18_equals_0 21 rfl rfl)
theorem dJ18_equals_24 : decode cJ18_equals 24 = .ok (.iconst 0, 1) := dk_3 (dk_at dksJ18_equals_1 0 rfl rfl)
theorem dJ18_equals_25 : decode cJ18_equals 25 = .ok (.ireturn, 1) := dk_172 (dk_at dksJ18_equals_1 1 rfl rfl)
theorem dJ18_equals_26 : decode cJ18_equals 26 = .ok (.iinc 2 1, 3) := dk_132 2 1 (dk_at dksJ18_equals_1 2 rfl rfl)
theorem dJ18_equals_29 : decode cJ18_equals 29 = .ok (.goto (-20), 3) := dk_167 255 236 (dk_at dksJ18_equals_1 5 rfl rfl)
theorem dJ18_equals_32 : decode cJ18_equals 32 = .ok (.iconst 1, 1) := dk_4 (dk_at dksJ18_equals_1 8 rfl rfl)
theorem dJ18_equals_33 : decode cJ18_equals 33 = .ok (.ireturn, 1) := dk_172 (dk_at dksJ18_equals_1 9 rfl rfl)
theorem dJ18_equals_34 : decode cJ18_equals 34 = .ok (.iconst 0, 1) := dk_3 (dk_at dksJ18_equals_1 10 rfl rfl)
theorem dJ18_equals_35 : decode cJ18_equals 35 = .ok (.ireturn, 1) := dk_172 (dk_at dksJ18_equals_1 11 rfl rfl)
abbrev cJ18_hashCode : ByteArray := prog_37_method_21_code
def yJ18_hashCode : MethodName := ⟨RJ18, "hashCode", "([B)I"⟩
def dkwJ18_hashCode_2 : List UInt8 := [3, 167, 0, 22, 42, 3, 51, 17, 0, 255, 126, 167, 0, 12, 42, 3, 42, 190, 3, 7, 184, 0, 84, 172]
abbrev dktJ18_hashCode_2 : List UInt8 := dkwJ18_hashCode_2 ++ []
def dkwJ18_hashCode_1 : List UInt8 := [171, 0, 0, 0, 0, 40, 0, 0, 0, 2, 0, 0, 0, 0, 0, 0, 0, 26, 0, 0, 0, 1, 0, 0, 0, 30]
abbrev dktJ18_hashCode_1 : List UInt8 := dkwJ18_hashCode_1 ++ dktJ18_hashCode_2
def dkwJ18_hashCode_0 : List UInt8 := [42, 190]
abbrev dktJ18_hashCode_0 : List UInt8 := dkwJ18_hashCode_0 ++ dktJ18_hashCode_1
theorem dksJ18_hashCode_0 : cJ18_hashCode.data.toList.drop 0 = dktJ18_hashCode_0 := by decide +kernel
theorem dksJ18_hashCode_1 : cJ18_hashCode.data.toList.drop 2 = dktJ18_hashCode_1 := dk_seg dksJ18_hashCode_0 2 rfl rfl
theorem dksJ18_hashCode_2 : cJ18_hashCode.data.toList.drop 28 = dktJ18_hashCode_2 := dk_seg dksJ18_hashCode_1 26 rfl rfl
theorem dJ18_hashCode_0 : decode cJ18_hashCode 0 = .ok (.aload_n 0, 1) := dk_42 (dk_at dksJ18_hashCode_0 0 rfl rfl)
theorem dJ18_hashCode_1 : decode cJ18_hashCode 1 = .ok (.arraylength, 1) := dk_190 (dk_at dksJ18_hashCode_0 1 rfl rfl)
theorem dJ18_hashCode_2 : decode cJ18_hashCode 2 = .ok (.lookupswitch 40 #[(0, 26), (1, 30)], 26) := by decide +kernel
theorem dJ18_hashCode_28 : decode cJ18_hashCode 28 = .ok (.iconst 0, 1) := dk_3 (dk_at dksJ18_hashCode_2 0 rfl rfl)
theorem dJ18_hashCode_29 : decode cJ18_hashCode 29 = .ok (.goto 22, 3) := dk_167 0 22 (dk_at dksJ18_hashCode_2 1 rfl rfl)
theorem dJ18_hashCode_32 : decode cJ18_hashCode 32 = .ok (.aload_n 0, 1) := dk_42 (dk_at dksJ18_hashCode_2 4 rfl rfl)
theorem dJ18_hashCode_33 : decode cJ18_hashCode 33 = .ok (.iconst 0, 1) := dk_3 (dk_at dksJ18_hashCode_2 5 rfl rfl)
theorem dJ18_hashCode_34 : decode cJ18_hashCode 34 = .ok (.baload, 1) := dk_51 (dk_at dksJ18_hashCode_2 6 rfl rfl)
theorem dJ18_hashCode_35 : decode cJ18_hashCode 35 = .ok (.sipush 255, 3) := dk_17 0 255 (dk_at dksJ18_hashCode_2 7 rfl rfl)
theorem dJ18_hashCode_38 : decode cJ18_hashCode 38 = .ok (.iand, 1) := dk_126 (dk_at dksJ18_hashCode_2 10 rfl rfl)
theorem dJ18_hashCode_39 : decode cJ18_hashCode 39 = .ok (.goto 12, 3) := dk_167 0 12 (dk_at dksJ18_hashCode_2 11 rfl rfl)
theorem dJ18_hashCode_42 : decode cJ18_hashCode 42 = .ok (.aload_n 0, 1) := dk_42 (dk_at dksJ18_hashCode_2 14 rfl rfl)
theorem dJ18_hashCode_43 : decode cJ18_hashCode 43 = .ok (.iconst 0, 1) := dk_3 (dk_at dksJ18_hashCode_2 15 rfl rfl)
theorem dJ18_hashCode_44 : decode cJ18_hashCode 44 = .ok (.aload_n 0, 1) := dk_42 (dk_at dksJ18_hashCode_2 16 rfl rfl)
theorem dJ18_hashCode_45 : decode cJ18_hashCode 45 = .ok (.arraylength, 1) := dk_190 (dk_at dksJ18_hashCode_2 17 rfl rfl)
theorem dJ18_hashCode_46 : decode cJ18_hashCode 46 = .ok (.iconst 0, 1) := dk_3 (dk_at dksJ18_hashCode_2 18 rfl rfl)
theorem dJ18_hashCode_47 : decode cJ18_hashCode 47 = .ok (.iconst 4, 1) := dk_7 (dk_at dksJ18_hashCode_2 19 rfl rfl)
theorem dJ18_hashCode_48 : decode cJ18_hashCode 48 = .ok (.invokestatic 84, 3) := dk_184 0 84 (dk_at dksJ18_hashCode_2 20 rfl rfl)
theorem dJ18_hashCode_51 : decode cJ18_hashCode 51 = .ok (.ireturn, 1) := dk_172 (dk_at dksJ18_hashCode_2 23 rfl rfl)
abbrev cJ18_fillNull : ByteArray := prog_37_method_48_code
def yJ18_fillNull : MethodName := ⟨RJ18, "fillNull", "([BII)V"⟩
def dkwJ18_fillNull_0 : List UInt8 := [42, 27, 28, 3, 184, 0, 236, 177]
abbrev dktJ18_fillNull_0 : List UInt8 := dkwJ18_fillNull_0 ++ []
theorem dksJ18_fillNull_0 : cJ18_fillNull.data.toList.drop 0 = dktJ18_fillNull_0 := by decide +kernel
theorem dJ18_fillNull_0 : decode cJ18_fillNull 0 = .ok (.aload_n 0, 1) := dk_42 (dk_at dksJ18_fillNull_0 0 rfl rfl)
theorem dJ18_fillNull_1 : decode cJ18_fillNull 1 = .ok (.iload_n 1, 1) := dk_27 (dk_at dksJ18_fillNull_0 1 rfl rfl)
theorem dJ18_fillNull_2 : decode cJ18_fillNull 2 = .ok (.iload_n 2, 1) := dk_28 (dk_at dksJ18_fillNull_0 2 rfl rfl)
theorem dJ18_fillNull_3 : decode cJ18_fillNull 3 = .ok (.iconst 0, 1) := dk_3 (dk_at dksJ18_fillNull_0 3 rfl rfl)
theorem dJ18_fillNull_4 : decode cJ18_fillNull 4 = .ok (.invokestatic 236, 3) := dk_184 0 236 (dk_at dksJ18_fillNull_0 4 rfl rfl)
theorem dJ18_fillNull_7 : decode cJ18_fillNull 7 = .ok (.return_, 1) := dk_177 (dk_at dksJ18_fillNull_0 7 rfl rfl)
abbrev cJ18_charAt : ByteArray := prog_37_method_2_code
def yJ18_charAt : MethodName := ⟨RJ18, "charAt", "([BI)C"⟩
def dkwJ18_charAt_0 : List UInt8 := [27, 42, 190, 184, 0, 9, 42, 27, 51, 17, 0, 255, 126, 146, 172]
abbrev dktJ18_charAt_0 : List UInt8 := dkwJ18_charAt_0 ++ []
theorem dksJ18_charAt_0 : cJ18_charAt.data.toList.drop 0 = dktJ18_charAt_0 := by decide +kernel
theorem dJ18_charAt_0 : decode cJ18_charAt 0 = .ok (.iload_n 1, 1) := dk_27 (dk_at dksJ18_charAt_0 0 rfl rfl)
theorem dJ18_charAt_1 : decode cJ18_charAt 1 = .ok (.aload_n 0, 1) := dk_42 (dk_at dksJ18_charAt_0 1 rfl rfl)
theorem dJ18_charAt_2 : decode cJ18_charAt 2 = .ok (.arraylength, 1) := dk_190 (dk_at dksJ18_charAt_0 2 rfl rfl)
theorem dJ18_charAt_3 : decode cJ18_charAt 3 = .ok (.invokestatic 9, 3) := dk_184 0 9 (dk_at dksJ18_charAt_0 3 rfl rfl)
theorem dJ18_charAt_6 : decode cJ18_charAt 6 = .ok (.aload_n 0, 1) := dk_42 (dk_at dksJ18_charAt_0 6 rfl rfl)
theorem dJ18_charAt_7 : decode cJ18_charAt 7 = .ok (.iload_n 1, 1) := dk_27 (dk_at dksJ18_charAt_0 7 rfl rfl)
theorem dJ18_charAt_8 : decode cJ18_charAt 8 = .ok (.baload, 1) := dk_51 (dk_at dksJ18_charAt_0 8 rfl rfl)
theorem dJ18_charAt_9 : decode cJ18_charAt 9 = .ok (.sipush 255, 3) := dk_17 0 255 (dk_at dksJ18_charAt_0 9 rfl rfl)
theorem dJ18_charAt_12 : decode cJ18_charAt 12 = .ok (.iand, 1) := dk_126 (dk_at dksJ18_charAt_0 12 rfl rfl)
theorem dJ18_charAt_13 : decode cJ18_charAt 13 = .ok (.i2c, 1) := dk_146 (dk_at dksJ18_charAt_0 13 rfl rfl)
theorem dJ18_charAt_14 : decode cJ18_charAt 14 = .ok (.ireturn, 1) := dk_172 (dk_at dksJ18_charAt_0 14 rfl rfl)

/-! decode rows: J19.java_lang_Number.lean.txt -/
set_option maxRecDepth 100000
abbrev cJ19_init : ByteArray := prog_32_method_1_code
def yJ19_init : MethodName := ⟨RJ19, "<init>", "()V"⟩
theorem dJ19_init_0 : decode cJ19_init 0 = .ok (.aload_n 0, 1) := by decide +kernel
theorem dJ19_init_1 : decode cJ19_init 1 = .ok (.invokespecial 1, 3) := by decide +kernel
theorem dJ19_init_4 : decode cJ19_init 4 = .ok (.return_, 1) := by decide +kernel

/-! decode rows: J20.java_lang_Integer.lean.txt -/
set_option maxRecDepth 100000
abbrev cJ20_stringSize : ByteArray := prog_27_method_13_code
def yJ20_stringSize : MethodName := ⟨RJ20, "stringSize", "(I)I"⟩
def dkwJ20_stringSize_1 : List UInt8 := [164, 0, 7, 29, 27, 96, 172, 16, 10, 28, 104, 61, 132, 3, 1, 167, 255, 233, 16, 10, 27, 96, 172]
abbrev dktJ20_stringSize_1 : List UInt8 := dkwJ20_stringSize_1 ++ []
def dkwJ20_stringSize_0 : List UInt8 := [4, 60, 26, 155, 0, 8, 3, 60, 26, 116, 59, 16, 246, 61, 4, 62, 29, 16, 10, 162, 0, 23, 26, 28]
abbrev dktJ20_stringSize_0 : List UInt8 := dkwJ20_stringSize_0 ++ dktJ20_stringSize_1
theorem dksJ20_stringSize_0 : cJ20_stringSize.data.toList.drop 0 = dktJ20_stringSize_0 := by decide +kernel
theorem dksJ20_stringSize_1 : cJ20_stringSize.data.toList.drop 24 = dktJ20_stringSize_1 := dk_seg dksJ20_stringSize_0 24 rfl rfl
theorem dJ20_stringSize_0 : decode cJ20_stringSize 0 = .ok (.iconst 1, 1) := dk_4 (dk_at dksJ20_stringSize_0 0 rfl rfl)
theorem dJ20_stringSize_1 : decode cJ20_stringSize 1 = .ok (.istore_n 1, 1) := dk_60 (dk_at dksJ20_stringSize_0 1 rfl rfl)
theorem dJ20_stringSize_2 : decode cJ20_stringSize 2 = .ok (.iload_n 0, 1) := dk_26 (dk_at dksJ20_stringSize_0 2 rfl rfl)
theorem dJ20_stringSize_3 : decode cJ20_stringSize 3 = .ok (.ifCond .lt 8, 3) := dk_155 0 8 (dk_at dksJ20_stringSize_0 3 rfl rfl)
theorem dJ20_stringSize_6 : decode cJ20_stringSize 6 = .ok (.iconst 0, 1) := dk_3 (dk_at dksJ20_stringSize_0 6 rfl rfl)
theorem dJ20_stringSize_7 : decode cJ20_stringSize 7 = .ok (.istore_n 1, 1) := dk_60 (dk_at dksJ20_stringSize_0 7 rfl rfl)
theorem dJ20_stringSize_8 : decode cJ20_stringSize 8 = .ok (.iload_n 0, 1) := dk_26 (dk_at dksJ20_stringSize_0 8 rfl rfl)
theorem dJ20_stringSize_9 : decode cJ20_stringSize 9 = .ok (.ineg, 1) := dk_116 (dk_at dksJ20_stringSize_0 9 rfl rfl)
theorem dJ20_stringSize_10 : decode cJ20_stringSize 10 = .ok (.istore_n 0, 1) := dk_59 (dk_at dksJ20_stringSize_0 10 rfl rfl)
theorem dJ20_stringSize_11 : decode cJ20_stringSize 11 = .ok (.bipush (-10), 2) := dk_16 246 (dk_at dksJ20_stringSize_0 11 rfl rfl)
theorem dJ20_stringSize_13 : decode cJ20_stringSize 13 = .ok (.istore_n 2, 1) := dk_61 (dk_at dksJ20_stringSize_0 13 rfl rfl)
theorem dJ20_stringSize_14 : decode cJ20_stringSize 14 = .ok (.iconst 1, 1) := dk_4 (dk_at dksJ20_stringSize_0 14 rfl rfl)
theorem dJ20_stringSize_15 : decode cJ20_stringSize 15 = .ok (.istore_n 3, 1) := dk_62 (dk_at dksJ20_stringSize_0 15 rfl rfl)
theorem dJ20_stringSize_16 : decode cJ20_stringSize 16 = .ok (.iload_n 3, 1) := dk_29 (dk_at dksJ20_stringSize_0 16 rfl rfl)
theorem dJ20_stringSize_17 : decode cJ20_stringSize 17 = .ok (.bipush 10, 2) := dk_16 10 (dk_at dksJ20_stringSize_0 17 rfl rfl)
theorem dJ20_stringSize_19 : decode cJ20_stringSize 19 = .ok (.if_icmp .ge 23, 3) := dk_162 0 23 (dk_at dksJ20_stringSize_0 19 rfl rfl)
theorem dJ20_stringSize_22 : decode cJ20_stringSize 22 = .ok (.iload_n 0, 1) := dk_26 (dk_at dksJ20_stringSize_0 22 rfl rfl)
theorem dJ20_stringSize_23 : decode cJ20_stringSize 23 = .ok (.iload_n 2, 1) := dk_28 (dk_at dksJ20_stringSize_0 23 rfl rfl)
theorem dJ20_stringSize_24 : decode cJ20_stringSize 24 = .ok (.if_icmp .le 7, 3) := dk_164 0 7 (dk_at dksJ20_stringSize_1 0 rfl rfl)
theorem dJ20_stringSize_27 : decode cJ20_stringSize 27 = .ok (.iload_n 3, 1) := dk_29 (dk_at dksJ20_stringSize_1 3 rfl rfl)
theorem dJ20_stringSize_28 : decode cJ20_stringSize 28 = .ok (.iload_n 1, 1) := dk_27 (dk_at dksJ20_stringSize_1 4 rfl rfl)
theorem dJ20_stringSize_29 : decode cJ20_stringSize 29 = .ok (.iadd, 1) := dk_96 (dk_at dksJ20_stringSize_1 5 rfl rfl)
theorem dJ20_stringSize_30 : decode cJ20_stringSize 30 = .ok (.ireturn, 1) := dk_172 (dk_at dksJ20_stringSize_1 6 rfl rfl)
theorem dJ20_stringSize_31 : decode cJ20_stringSize 31 = .ok (.bipush 10, 2) := dk_16 10 (dk_at dksJ20_stringSize_1 7 rfl rfl)
theorem dJ20_stringSize_33 : decode cJ20_stringSize 33 = .ok (.iload_n 2, 1) := dk_28 (dk_at dksJ20_stringSize_1 9 rfl rfl)
theorem dJ20_stringSize_34 : decode cJ20_stringSize 34 = .ok (.imul, 1) := dk_104 (dk_at dksJ20_stringSize_1 10 rfl rfl)
theorem dJ20_stringSize_35 : decode cJ20_stringSize 35 = .ok (.istore_n 2, 1) := dk_61 (dk_at dksJ20_stringSize_1 11 rfl rfl)
theorem dJ20_stringSize_36 : decode cJ20_stringSize 36 = .ok (.iinc 3 1, 3) := dk_132 3 1 (dk_at dksJ20_stringSize_1 12 rfl rfl)
theorem dJ20_stringSize_39 : decode cJ20_stringSize 39 = .ok (.goto (-23), 3) := dk_167 255 233 (dk_at dksJ20_stringSize_1 15 rfl rfl)
theorem dJ20_stringSize_42 : decode cJ20_stringSize 42 = .ok (.bipush 10, 2) := dk_16 10 (dk_at dksJ20_stringSize_1 18 rfl rfl)
theorem dJ20_stringSize_44 : decode cJ20_stringSize 44 = .ok (.iload_n 1, 1) := dk_27 (dk_at dksJ20_stringSize_1 20 rfl rfl)
theorem dJ20_stringSize_45 : decode cJ20_stringSize 45 = .ok (.iadd, 1) := dk_96 (dk_at dksJ20_stringSize_1 21 rfl rfl)
theorem dJ20_stringSize_46 : decode cJ20_stringSize 46 = .ok (.ireturn, 1) := dk_172 (dk_at dksJ20_stringSize_1 22 rfl rfl)
abbrev cJ20_getChars : ByteArray := prog_27_method_12_code
def yJ20_getChars : MethodName := ⟨RJ20, "getChars", "(II[B)I"⟩
def dkwJ20_getChars_5 : List UInt8 := [16, 45, 84, 21, 5, 172]
abbrev dktJ20_getChars_5 : List UInt8 := dkwJ20_getChars_5 ++ []
def dkwJ20_getChars_4 : List UInt8 := [132, 5, 255, 21, 5, 178, 0, 87, 26, 116, 51, 84, 21, 6, 153, 0, 12, 44, 132, 5, 255, 21, 5]
abbrev dktJ20_getChars_4 : List UInt8 := dkwJ20_getChars_4 ++ dktJ20_getChars_5
def dkwJ20_getChars_3 : List UInt8 := [167, 255, 209, 44, 132, 5, 255, 21, 5, 178, 0, 83, 26, 116, 51, 84, 26, 16, 247, 162, 0, 16, 44]
abbrev dktJ20_getChars_3 : List UInt8 := dkwJ20_getChars_3 ++ dktJ20_getChars_4
def dkwJ20_getChars_2 : List UInt8 := [21, 5, 178, 0, 83, 21, 4, 51, 84, 44, 132, 5, 255, 21, 5, 178, 0, 87, 21, 4, 51, 84]
abbrev dktJ20_getChars_2 : List UInt8 := dkwJ20_getChars_2 ++ dktJ20_getChars_3
def dkwJ20_getChars_1 : List UInt8 := [16, 156, 163, 0, 47, 26, 16, 100, 108, 62, 29, 16, 100, 104, 26, 100, 54, 4, 29, 59, 44, 132, 5, 255]
abbrev dktJ20_getChars_1 : List UInt8 := dkwJ20_getChars_1 ++ dktJ20_getChars_2
def dkwJ20_getChars_0 : List UInt8 := [27, 54, 5, 26, 156, 0, 7, 4, 167, 0, 4, 3, 54, 6, 21, 6, 154, 0, 6, 26, 116, 59, 26]
abbrev dktJ20_getChars_0 : List UInt8 := dkwJ20_getChars_0 ++ dktJ20_getChars_1
theorem dksJ20_getChars_0 : cJ20_getChars.data.toList.drop 0 = dktJ20_getChars_0 := by decide +kernel
theorem dksJ20_getChars_1 : cJ20_getChars.data.toList.drop 23 = dktJ20_getChars_1 := dk_seg dksJ20_getChars_0 23 rfl rfl
theorem dksJ20_getChars_2 : cJ20_getChars.data.toList.drop 47 = dktJ20_getChars_2 := dk_seg dksJ20_getChars_1 24 rfl rfl
theorem dksJ20_getChars_3 : cJ20_getChars.data.toList.drop 69 = dktJ20_getChars_3 := dk_seg dksJ20_getChars_2 22 rfl rfl
theorem dksJ20_getChars_4 : cJ20_getChars.data.toList.drop 92 = dktJ20_getChars_4 := dk_seg dksJ20_getChars_3 23 rfl rfl
theorem dksJ20_getChars_5 : cJ20_getChars.data.toList.drop 115 = dktJ20_getChars_5 := dk_seg dksJ20_getChars_4 23 rfl rfl
theorem dJ20_getChars_0 : decode cJ20_getChars 0 = .ok (.iload_n 1, 1) := dk_27 (dk_at dksJ20_getChars_0 0 rfl rfl)
theorem dJ20_getChars_1 : decode cJ20_getChars 1 = .ok (.istore 5, 2) := dk_54 5 (dk_at dksJ20_getChars_0 1 rfl rfl)
theorem dJ20_getChars_3 : decode cJ20_getChars 3 = .ok (.iload_n 0, 1) := dk_26 (dk_at dksJ20_getChars_0 3 rfl rfl)
theorem dJ20_getChars_4 : decode cJ20_getChars 4 = .ok (.ifCond .ge 7, 3) := dk_156 0 7 (dk_at dksJ20_getChars_0 4 rfl rfl)
theorem dJ20_getChars_7 : decode cJ20_getChars 7 = .ok (.iconst 1, 1) := dk_4 (dk_at dksJ20_getChars_0 7 rfl rfl)
theorem dJ20_getChars_8 : decode cJ20_getChars 8 = .ok (.goto 4, 3) := dk_167 0 4 (dk_at dksJ20_getChars_0 8 rfl rfl)
theorem dJ20_getChars_11 : decode cJ20_getChars 11 = .ok (.iconst 0, 1) := dk_3 (dk_at dksJ20_getChars_0 11 rfl rfl)
theorem dJ20_getChars_12 : decode cJ20_getChars 12 = .ok (.istore 6, 2) := dk_54 6 (dk_at dksJ20_getChars_0 12 rfl rfl)
theorem dJ20_getChars_14 : decode cJ20_getChars 14 = .ok (.iload 6, 2) := dk_21 6 (dk_at dksJ20_getChars_0 14 rfl rfl)
theorem dJ20_getChars_16 : decode cJ20_getChars 16 = .ok (.ifCond .ne 6, 3) := dk_154 0 6 (dk_at dksJ20_getChars_0 16 rfl rfl)
theorem dJ20_getChars_19 : decode cJ20_getChars 19 = .ok (.iload_n 0, 1) := dk_26 (dk_at dksJ20_getChars_0 19 rfl rfl)
theorem dJ20_getChars_20 : decode cJ20_getChars 20 = .ok (.ineg, 1) := dk_116 (dk_at dksJ20_getChars_0 20 rfl rfl)
theorem dJ20_getChars_21 : decode cJ20_getChars 21 = .ok (.istore_n 0, 1) := dk_59 (dk_at dksJ20_getChars_0 21 rfl rfl)
theorem dJ20_getChars_22 : decode cJ20_getChars 22 = .ok (.iload_n 0, 1) := dk_26 (dk_at dksJ20_getChars_0 22 rfl rfl)
theorem dJ20_getChars_23 : decode cJ20_getChars 23 = .ok (.bipush (-100), 2) := dk_16 156 (dk_at dksJ20_getChars_1 0 rfl rfl)
theorem dJ20_getChars_25 : decode cJ20_getChars 25 = .ok (.if_icmp .gt 47, 3) := dk_163 0 47 (dk_at dksJ20_getChars_1 2 rfl rfl)
theorem dJ20_getChars_28 : decode cJ20_getChars 28 = .ok (.iload_n 0, 1) := dk_26 (dk_at dksJ20_getChars_1 5 rfl rfl)
theorem dJ20_getChars_29 : decode cJ20_getChars 29 = .ok (.bipush 100, 2) := dk_16 100 (dk_at dksJ20_getChars_1 6 rfl rfl)
theorem dJ20_getChars_31 : decode cJ20_getChars 31 = .ok (.idiv, 1) := dk_108 (dk_at dksJ20_getChars_1 8 rfl rfl)
theorem dJ20_getChars_32 : decode cJ20_getChars 32 = .ok (.istore_n 3, 1) := dk_62 (dk_at dksJ20_getChars_1 9 rfl rfl)
theorem dJ20_getChars_33 : decode cJ20_getChars 33 = .ok (.iload_n 3, 1) := dk_29 (dk_at dksJ20_getChars_1 10 rfl rfl)
theorem dJ20_getChars_34 : decode cJ20_getChars 34 = .ok (.bipush 100, 2) := dk_16 100 (dk_at dksJ20_getChars_1 11 rfl rfl)
theorem dJ20_getChars_36 : decode cJ20_getChars 36 = .ok (.imul, 1) := dk_104 (dk_at dksJ20_getChars_1 13 rfl rfl)
theorem dJ20_getChars_37 : decode cJ20_getChars 37 = .ok (.iload_n 0, 1) := dk_26 (dk_at dksJ20_getChars_1 14 rfl rfl)
theorem dJ20_getChars_38 : decode cJ20_getChars 38 = .ok (.isub, 1) := dk_100 (dk_at dksJ20_getChars_1 15 rfl rfl)
theorem dJ20_getChars_39 : decode cJ20_getChars 39 = .ok (.istore 4, 2) := dk_54 4 (dk_at dksJ20_getChars_1 16 rfl rfl)
theorem dJ20_getChars_41 : decode cJ20_getChars 41 = .ok (.iload_n 3, 1) := dk_29 (dk_at dksJ20_getChars_1 18 rfl rfl)
theorem dJ20_getChars_42 : decode cJ20_getChars 42 = .ok (.istore_n 0, 1) := dk_59 (dk_at dksJ20_getChars_1 19 rfl rfl)
theorem dJ20_getChars_43 : decode cJ20_getChars 43 = .ok (.aload_n 2, 1) := dk_44 (dk_at dksJ20_getChars_1 20 rfl rfl)
theorem dJ20_getChars_44 : decode cJ20_getChars 44 = .ok (.iinc 5 (-1), 3) := dk_132 5 255 (dk_at dksJ20_getChars_1 21 rfl rfl)
theorem dJ20_getChars_47 : decode cJ20_getChars 47 = .ok (.iload 5, 2) := dk_21 5 (dk_at dksJ20_getChars_2 0 rfl rfl)
theorem dJ20_getChars_49 : decode cJ20_getChars 49 = .ok (.getstatic 83, 3) := dk_178 0 83 (dk_at dksJ20_getChars_2 2 rfl rfl)
theorem dJ20_getChars_52 : decode cJ20_getChars 52 = .ok (.iload 4, 2) := dk_21 4 (dk_at dksJ20_getChars_2 5 rfl rfl)
theorem dJ20_getChars_54 : decode cJ20_getChars 54 = .ok (.baload, 1) := dk_51 (dk_at dksJ20_getChars_2 7 rfl rfl)
theorem dJ20_getChars_55 : decode cJ20_getChars 55 = .ok (.bastore, 1) := dk_84 (dk_at dksJ20_getChars_2 8 rfl rfl)
theorem dJ20_getChars_56 : decode cJ20_getChars 56 = .ok (.aload_n 2, 1) := dk_44 (dk_at dksJ20_getChars_2 9 rfl rfl)
theorem dJ20_getChars_57 : decode cJ20_getChars 57 = .ok (.iinc 5 (-1), 3) := dk_132 5 255 (dk_at dksJ20_getChars_2 10 rfl rfl)
theorem dJ20_getChars_60 : decode cJ20_getChars 60 = .ok (.iload 5, 2) := dk_21 5 (dk_at dksJ20_getChars_2 13 rfl rfl)
theorem dJ20_getChars_62 : decode cJ20_getChars 62 = .ok (.getstatic 87, 3) := dk_178 0 87 (dk_at dksJ20_getChars_2 15 rfl rfl)
theorem dJ20_getChars_65 : decode cJ20_getChars 65 = .ok (.iload 4, 2) := dk_21 4 (dk_at dksJ20_getChars_2 18 rfl rfl)
theorem dJ20_getChars_67 : decode cJ20_getChars 67 = .ok (.baload, 1) := dk_51 (dk_at dksJ20_getChars_2 20 rfl rfl)
theorem dJ20_getChars_68 : decode cJ20_getChars 68 = .ok (.bastore, 1) := dk_84 (dk_at dksJ20_getChars_2 21 rfl rfl)
theorem dJ20_getChars_69 : decode cJ20_getChars 69 = .ok (.goto (-47), 3) := dk_167 255 209 (dk_at dksJ20_getChars_3 0 rfl rfl)
theorem dJ20_getChars_72 : decode cJ20_getChars 72 = .ok (.aload_n 2, 1) := dk_44 (dk_at dksJ20_getChars_3 3 rfl rfl)
theorem dJ20_getChars_73 : decode cJ20_getChars 73 = .ok (.iinc 5 (-1), 3) := dk_132 5 255 (dk_at dksJ20_getChars_3 4 rfl rfl)
theorem dJ20_getChars_76 : decode cJ20_getChars 76 = .ok (.iload 5, 2) := dk_21 5 (dk_at dksJ20_getChars_3 7 rfl rfl)
theorem dJ20_getChars_78 : decode cJ20_getChars 78 = .ok (.getstatic 83, 3) := dk_178 0 83 (dk_at dksJ20_getChars_3 9 rfl rfl)
theorem dJ20_getChars_81 : decode cJ20_getChars 81 = .ok (.iload_n 0, 1) := dk_26 (dk_at dksJ20_getChars_3 12 rfl rfl)
theorem dJ20_getChars_82 : decode cJ20_getChars 82 = .ok (.ineg, 1) := dk_116 (dk_at dksJ20_getChars_3 13 rfl rfl)
theorem dJ20_getChars_83 : decode cJ20_getChars 83 = .ok (.baload, 1) := dk_51 (dk_at dksJ20_getChars_3 14 rfl rfl)
theorem dJ20_getChars_84 : decode cJ20_getChars 84 = .ok (.bastore, 1) := dk_84 (dk_at dksJ20_getChars_3 15 rfl rfl)
theorem dJ20_getChars_85 : decode cJ20_getChars 85 = .ok (.iload_n 0, 1) := dk_26 (dk_at dksJ20_getChars_3 16 rfl rfl)
theorem dJ20_getChars_86 : decode cJ20_getChars 86 = .ok (.bipush (-9), 2) := dk_16 247 (dk_at dksJ20_getChars_3 17 rfl rfl)
theorem dJ20_getChars_88 : decode cJ20_getChars 88 = .ok (.if_icmp .ge 16, 3) := dk_162 0 16 (dk_at dksJ20_getChars_3 19 rfl rfl)
theorem dJ20_getChars_91 : decode cJ20_getChars 91 = .ok (.aload_n 2, 1) := dk_44 (dk_at dksJ20_getChars_3 22 rfl rfl)
theorem dJ20_getChars_92 : decode cJ20_getChars 92 = .ok (.iinc 5 (-1), 3) := dk_132 5 255 (dk_at dksJ20_getChars_4 0 rfl rfl)
theorem dJ20_getChars_95 : decode cJ20_getChars 95 = .ok (.iload 5, 2) := dk_21 5 (dk_at dksJ20_getChars_4 3 rfl rfl)
theorem dJ20_getChars_97 : decode cJ20_getChars 97 = .ok (.getstatic 87, 3) := dk_178 0 87 (dk_at dksJ20_getChars_4 5 rfl rfl)
theorem dJ20_getChars_100 : decode cJ20_getChars 100 = .ok (.iload_n 0, 1) := dk_26 (dk_at dksJ20_getChars_4 8 rfl rfl)
theorem dJ20_getChars_101 : decode cJ20_getChars 101 = .ok (.ineg, 1) := dk_116 (dk_at dksJ20_getChars_4 9 rfl rfl)
theorem dJ20_getChars_102 : decode cJ20_getChars 102 = .ok (.baload, 1) := dk_51 (dk_at dksJ20_getChars_4 10 rfl rfl)
theorem dJ20_getChars_103 : decode cJ20_getChars 103 = .ok (.bastore, 1) := dk_84 (dk_at dksJ20_getChars_4 11 rfl rfl)
theorem dJ20_getChars_104 : decode cJ20_getChars 104 = .ok (.iload 6, 2) := dk_21 6 (dk_at dksJ20_getChars_4 12 rfl rfl)
theorem dJ20_getChars_106 : decode cJ20_getChars 106 = .ok (.ifCond .eq 12, 3) := dk_153 0 12 (dk_at dksJ20_getChars_4 14 rfl rfl)
theorem dJ20_getChars_109 : decode cJ20_getChars 109 = .ok (.aload_n 2, 1) := dk_44 (dk_at dksJ20_getChars_4 17 rfl rfl)
theorem dJ20_getChars_110 : decode cJ20_getChars 110 = .ok (.iinc 5 (-1), 3) := dk_132 5 255 (dk_at dksJ20_getChars_4 18 rfl rfl)
theorem dJ20_getChars_113 : decode cJ20_getChars 113 = .ok (.iload 5, 2) := dk_21 5 (dk_at dksJ20_getChars_4 21 rfl rfl)
theorem dJ20_getChars_115 : decode cJ20_getChars 115 = .ok (.bipush 45, 2) := dk_16 45 (dk_at dksJ20_getChars_5 0 rfl rfl)
theorem dJ20_getChars_117 : decode cJ20_getChars 117 = .ok (.bastore, 1) := dk_84 (dk_at dksJ20_getChars_5 2 rfl rfl)
theorem dJ20_getChars_118 : decode cJ20_getChars 118 = .ok (.iload 5, 2) := dk_21 5 (dk_at dksJ20_getChars_5 3 rfl rfl)
theorem dJ20_getChars_120 : decode cJ20_getChars 120 = .ok (.ireturn, 1) := dk_172 (dk_at dksJ20_getChars_5 5 rfl rfl)
abbrev cJ20_equals : ByteArray := prog_27_method_34_code
def yJ20_equals : MethodName := ⟨RJ20, "equals", "(Ljava/lang/Object;)Z"⟩
def dkwJ20_equals_1 : List UInt8 := [167, 0, 4, 3, 172, 3, 172]
abbrev dktJ20_equals_1 : List UInt8 := dkwJ20_equals_1 ++ []
def dkwJ20_equals_0 : List UInt8 := [43, 193, 0, 1, 153, 0, 23, 42, 180, 0, 205, 43, 192, 0, 1, 182, 0, 211, 160, 0, 7, 4]
abbrev dktJ20_equals_0 : List UInt8 := dkwJ20_equals_0 ++ dktJ20_equals_1
theorem dksJ20_equals_0 : cJ20_equals.data.toList.drop 0 = dktJ20_equals_0 := by decide +kernel
theorem dksJ20_equals_1 : cJ20_equals.data.toList.drop 22 = dktJ20_equals_1 := dk_seg dksJ20_equals_0 22 rfl rfl
theorem dJ20_equals_0 : decode cJ20_equals 0 = .ok (.aload_n 1, 1) := dk_43 (dk_at dksJ20_equals_0 0 rfl rfl)
theorem dJ20_equals_1 : decode cJ20_equals 1 = .ok (.instanceof 1, 3) := dk_193 0 1 (dk_at dksJ20_equals_0 1 rfl rfl)
theorem dJ20_equals_4 : decode cJ20_equals 4 = .ok (.ifCond .eq 23, 3) := dk_153 0 23 (dk_at dksJ20_equals_0 4 rfl rfl)
theorem dJ20_equals_7 : decode cJ20_equals 7 = .ok (.aload_n 0, 1) := dk_42 (dk_at dksJ20_equals_0 7 rfl rfl)
theorem dJ20_equals_8 : decode cJ20_equals 8 = .ok (.getfield 205, 3) := dk_180 0 205 (dk_at dksJ20_equals_0 8 rfl rfl)
theorem dJ20_equals_11 : decode cJ20_equals 11 = .ok (.aload_n 1, 1) := dk_43 (dk_at dksJ20_equals_0 11 rfl rfl)
theorem dJ20_equals_12 : decode cJ20_equals 12 = .ok (.checkcast 1, 3) := dk_192 0 1 (dk_at dksJ20_equals_0 12 rfl rfl)
theorem dJ20_equals_15 : decode cJ20_equals 15 = .ok (.invokevirtual 211, 3) := dk_182 0 211 (dk_at dksJ20_equals_0 15 rfl rfl)
theorem dJ20_equals_18 : decode cJ20_equals 18 = .ok (.if_icmp .ne 7, 3) := dk_160 0 7 (dk_at dksJ20_equals_0 18 rfl rfl)
theorem dJ20_equals_21 : decode cJ20_equals 21 = .ok (.iconst 1, 1) := dk_4 (dk_at dksJ20_equals_0 21 rfl rfl)
theorem dJ20_equals_22 : decode cJ20_equals 22 = .ok (.goto 4, 3) := dk_167 0 4 (dk_at dksJ20_equals_1 0 rfl rfl)
theorem dJ20_equals_25 : decode cJ20_equals 25 = .ok (.iconst 0, 1) := dk_3 (dk_at dksJ20_equals_1 3 rfl rfl)
theorem dJ20_equals_26 : decode cJ20_equals 26 = .ok (.ireturn, 1) := dk_172 (dk_at dksJ20_equals_1 4 rfl rfl)
theorem dJ20_equals_27 : decode cJ20_equals 27 = .ok (.iconst 0, 1) := dk_3 (dk_at dksJ20_equals_1 5 rfl rfl)
theorem dJ20_equals_28 : decode cJ20_equals 28 = .ok (.ireturn, 1) := dk_172 (dk_at dksJ20_equals_1 6 rfl rfl)
abbrev cJ20_intValue : ByteArray := prog_27_method_27_code
def yJ20_intValue : MethodName := ⟨RJ20, "intValue", "()I"⟩
theorem dJ20_intValue_0 : decode cJ20_intValue 0 = .ok (.aload_n 0, 1) := by decide +kernel
theorem dJ20_intValue_1 : decode cJ20_intValue 1 = .ok (.getfield 205, 3) := by decide +kernel
theorem dJ20_intValue_4 : decode cJ20_intValue 4 = .ok (.ireturn, 1) := by decide +kernel
abbrev cJ20_numberOfTrailingZeros : ByteArray := prog_27_method_48_code
def yJ20_numberOfTrailingZeros : MethodName := ⟨RJ20, "numberOfTrailingZeros", "(I)I"⟩
def dkwJ20_numberOfTrailingZeros_3 : List UInt8 := [5, 124, 59, 27, 26, 4, 124, 96, 172]
abbrev dktJ20_numberOfTrailingZeros_3 : List UInt8 := dkwJ20_numberOfTrailingZeros_3 ++ []
def dkwJ20_numberOfTrailingZeros_2 : List UInt8 := [124, 59, 26, 16, 16, 164, 0, 10, 132, 1, 4, 26, 7, 124, 59, 26, 7, 164, 0, 10, 132, 1, 2, 26]
abbrev dktJ20_numberOfTrailingZeros_2 : List UInt8 := dkwJ20_numberOfTrailingZeros_2 ++ dktJ20_numberOfTrailingZeros_3
def dkwJ20_numberOfTrailingZeros_1 : List UInt8 := [164, 0, 11, 132, 1, 16, 26, 16, 16, 124, 59, 26, 17, 1, 0, 164, 0, 11, 132, 1, 8, 26, 16, 8]
abbrev dktJ20_numberOfTrailingZeros_1 : List UInt8 := dkwJ20_numberOfTrailingZeros_1 ++ dktJ20_numberOfTrailingZeros_2
def dkwJ20_numberOfTrailingZeros_0 : List UInt8 := [26, 2, 130, 26, 4, 100, 126, 59, 26, 157, 0, 8, 26, 16, 32, 126, 172, 4, 60, 26, 19, 1, 8]
abbrev dktJ20_numberOfTrailingZeros_0 : List UInt8 := dkwJ20_numberOfTrailingZeros_0 ++ dktJ20_numberOfTrailingZeros_1
theorem dksJ20_numberOfTrailingZeros_0 : cJ20_numberOfTrailingZeros.data.toList.drop 0 = dktJ20_numberOfTrailingZeros_0 := by decide +kernel
theorem dksJ20_numberOfTrailingZeros_1 : cJ20_numberOfTrailingZeros.data.toList.drop 23 = dktJ20_numberOfTrailingZeros_1 := dk_seg dksJ20_numberOfTrailingZeros_0 23 rfl rfl
theorem dksJ20_numberOfTrailingZeros_2 : cJ20_numberOfTrailingZeros.data.toList.drop 47 = dktJ20_numberOfTrailingZeros_2 := dk_seg dksJ20_numberOfTrailingZeros_1 24 rfl rfl
theorem dksJ20_numberOfTrailingZeros_3 : cJ20_numberOfTrailingZeros.data.toList.drop 71 = dktJ20_numberOfTrailingZeros_3 := dk_seg dksJ20_numberOfTrailingZeros_2 24 rfl rfl
theorem dJ20_numberOfTrailingZeros_0 : decode cJ20_numberOfTrailingZeros 0 = .ok (.iload_n 0, 1) := dk_26 (dk_at dksJ20_numberOfTrailingZeros_0 0 rfl rfl)
theorem dJ20_numberOfTrailingZeros_1 : decode cJ20_numberOfTrailingZeros 1 = .ok (.iconst (-1), 1) := dk_2 (dk_at dksJ20_numberOfTrailingZeros_0 1 rfl rfl)
theorem dJ20_numberOfTrailingZeros_2 : decode cJ20_numberOfTrailingZeros 2 = .ok (.ixor, 1) := dk_130 (dk_at dksJ20_numberOfTrailingZeros_0 2 rfl rfl)
theorem dJ20_numberOfTrailingZeros_3 : decode cJ20_numberOfTrailingZeros 3 = .ok (.iload_n 0, 1) := dk_26 (dk_at dksJ20_numberOfTrailingZeros_0 3 rfl rfl)
theorem dJ20_numberOfTrailingZeros_4 : decode cJ20_numberOfTrailingZeros 4 = .ok (.iconst 1, 1) := dk_4 (dk_at dksJ20_numberOfTrailingZeros_0 4 rfl rfl)
theorem dJ20_numberOfTrailingZeros_5 : decode cJ20_numberOfTrailingZeros 5 = .ok (.isub, 1) := dk_100 (dk_at dksJ20_numberOfTrailingZeros_0 5 rfl rfl)
theorem dJ20_numberOfTrailingZeros_6 : decode cJ20_numberOfTrailingZeros 6 = .ok (.iand, 1) := dk_126 (dk_at dksJ20_numberOfTrailingZeros_0 6 rfl rfl)
theorem dJ20_numberOfTrailingZeros_7 : decode cJ20_numberOfTrailingZeros 7 = .ok (.istore_n 0, 1) := dk_59 (dk_at dksJ20_numberOfTrailingZeros_0 7 rfl rfl)
theorem dJ20_numberOfTrailingZeros_8 : decode cJ20_numberOfTrailingZeros 8 = .ok (.iload_n 0, 1) := dk_26 (dk_at dksJ20_numberOfTrailingZeros_0 8 rfl rfl)
theorem dJ20_numberOfTrailingZeros_9 : decode cJ20_numberOfTrailingZeros 9 = .ok (.ifCond .gt 8, 3) := dk_157 0 8 (dk_at dksJ20_numberOfTrailingZeros_0 9 rfl rfl)
theorem dJ20_numberOfTrailingZeros_12 : decode cJ20_numberOfTrailingZeros 12 = .ok (.iload_n 0, 1) := dk_26 (dk_at dksJ20_numberOfTrailingZeros_0 12 rfl rfl)
theorem dJ20_numberOfTrailingZeros_13 : decode cJ20_numberOfTrailingZeros 13 = .ok (.bipush 32, 2) := dk_16 32 (dk_at dksJ20_numberOfTrailingZeros_0 13 rfl rfl)
theorem dJ20_numberOfTrailingZeros_15 : decode cJ20_numberOfTrailingZeros 15 = .ok (.iand, 1) := dk_126 (dk_at dksJ20_numberOfTrailingZeros_0 15 rfl rfl)
theorem dJ20_numberOfTrailingZeros_16 : decode cJ20_numberOfTrailingZeros 16 = .ok (.ireturn, 1) := dk_172 (dk_at dksJ20_numberOfTrailingZeros_0 16 rfl rfl)
theorem dJ20_numberOfTrailingZeros_17 : decode cJ20_numberOfTrailingZeros 17 = .ok (.iconst 1, 1) := dk_4 (dk_at dksJ20_numberOfTrailingZeros_0 17 rfl rfl)
theorem dJ20_numberOfTrailingZeros_18 : decode cJ20_numberOfTrailingZeros 18 = .ok (.istore_n 1, 1) := dk_60 (dk_at dksJ20_numberOfTrailingZeros_0 18 rfl rfl)
theorem dJ20_numberOfTrailingZeros_19 : decode cJ20_numberOfTrailingZeros 19 = .ok (.iload_n 0, 1) := dk_26 (dk_at dksJ20_numberOfTrailingZeros_0 19 rfl rfl)
theorem dJ20_numberOfTrailingZeros_20 : decode cJ20_numberOfTrailingZeros 20 = .ok (.ldc_w 264, 3) := dk_19 1 8 (dk_at dksJ20_numberOfTrailingZeros_0 20 rfl rfl)
theorem dJ20_numberOfTrailingZeros_23 : decode cJ20_numberOfTrailingZeros 23 = .ok (.if_icmp .le 11, 3) := dk_164 0 11 (dk_at dksJ20_numberOfTrailingZeros_1 0 rfl rfl)
theorem dJ20_numberOfTrailingZeros_26 : decode cJ20_numberOfTrailingZeros 26 = .ok (.iinc 1 16, 3) := dk_132 1 16 (dk_at dksJ20_numberOfTrailingZeros_1 3 rfl rfl)
theorem dJ20_numberOfTrailingZeros_29 : decode cJ20_numberOfTrailingZeros 29 = .ok (.iload_n 0, 1) := dk_26 (dk_at dksJ20_numberOfTrailingZeros_1 6 rfl rfl)
theorem dJ20_numberOfTrailingZeros_30 : decode cJ20_numberOfTrailingZeros 30 = .ok (.bipush 16, 2) := dk_16 16 (dk_at dksJ20_numberOfTrailingZeros_1 7 rfl rfl)
theorem dJ20_numberOfTrailingZeros_32 : decode cJ20_numberOfTrailingZeros 32 = .ok (.iushr, 1) := dk_124 (dk_at dksJ20_numberOfTrailingZeros_1 9 rfl rfl)
theorem dJ20_numberOfTrailingZeros_33 : decode cJ20_numberOfTrailingZeros 33 = .ok (.istore_n 0, 1) := dk_59 (dk_at dksJ20_numberOfTrailingZeros_1 10 rfl rfl)
theorem dJ20_numberOfTrailingZeros_34 : decode cJ20_numberOfTrailingZeros 34 = .ok (.iload_n 0, 1) := dk_26 (dk_at dksJ20_numberOfTrailingZeros_1 11 rfl rfl)
theorem dJ20_numberOfTrailingZeros_35 : decode cJ20_numberOfTrailingZeros 35 = .ok (.sipush 256, 3) := dk_17 1 0 (dk_at dksJ20_numberOfTrailingZeros_1 12 rfl rfl)
theorem dJ20_numberOfTrailingZeros_38 : decode cJ20_numberOfTrailingZeros 38 = .ok (.if_icmp .le 11, 3) := dk_164 0 11 (dk_at dksJ20_numberOfTrailingZeros_1 15 rfl rfl)
theorem dJ20_numberOfTrailingZeros_41 : decode cJ20_numberOfTrailingZeros 41 = .ok (.iinc 1 8, 3) := dk_132 1 8 (dk_at dksJ20_numberOfTrailingZeros_1 18 rfl rfl)
theorem dJ20_numberOfTrailingZeros_44 : decode cJ20_numberOfTrailingZeros 44 = .ok (.iload_n 0, 1) := dk_26 (dk_at dksJ20_numberOfTrailingZeros_1 21 rfl rfl)
theorem dJ20_numberOfTrailingZeros_45 : decode cJ20_numberOfTrailingZeros 45 = .ok (.bipush 8, 2) := dk_16 8 (dk_at dksJ20_numberOfTrailingZeros_1 22 rfl rfl)
theorem dJ20_numberOfTrailingZeros_47 : decode cJ20_numberOfTrailingZeros 47 = .ok (.iushr, 1) := dk_124 (dk_at dksJ20_numberOfTrailingZeros_2 0 rfl rfl)
theorem dJ20_numberOfTrailingZeros_48 : decode cJ20_numberOfTrailingZeros 48 = .ok (.istore_n 0, 1) := dk_59 (dk_at dksJ20_numberOfTrailingZeros_2 1 rfl rfl)
theorem dJ20_numberOfTrailingZeros_49 : decode cJ20_numberOfTrailingZeros 49 = .ok (.iload_n 0, 1) := dk_26 (dk_at dksJ20_numberOfTrailingZeros_2 2 rfl rfl)
theorem dJ20_numberOfTrailingZeros_50 : decode cJ20_numberOfTrailingZeros 50 = .ok (.bipush 16, 2) := dk_16 16 (dk_at dksJ20_numberOfTrailingZeros_2 3 rfl rfl)
theorem dJ20_numberOfTrailingZeros_52 : decode cJ20_numberOfTrailingZeros 52 = .ok (.if_icmp .le 10, 3) := dk_164 0 10 (dk_at dksJ20_numberOfTrailingZeros_2 5 rfl rfl)
theorem dJ20_numberOfTrailingZeros_55 : decode cJ20_numberOfTrailingZeros 55 = .ok (.iinc 1 4, 3) := dk_132 1 4 (dk_at dksJ20_numberOfTrailingZeros_2 8 rfl rfl)
theorem dJ20_numberOfTrailingZeros_58 : decode cJ20_numberOfTrailingZeros 58 = .ok (.iload_n 0, 1) := dk_26 (dk_at dksJ20_numberOfTrailingZeros_2 11 rfl rfl)
theorem dJ20_numberOfTrailingZeros_59 : decode cJ20_numberOfTrailingZeros 59 = .ok (.iconst 4, 1) := dk_7 (dk_at dksJ20_numberOfTrailingZeros_2 12 rfl rfl)
theorem dJ20_numberOfTrailingZeros_60 : decode cJ20_numberOfTrailingZeros 60 = .ok (.iushr, 1) := dk_124 (dk_at dksJ20_numberOfTrailingZeros_2 13 rfl rfl)
theorem dJ20_numberOfTrailingZeros_61 : decode cJ20_numberOfTrailingZeros 61 = .ok (.istore_n 0, 1) := dk_59 (dk_at dksJ20_numberOfTrailingZeros_2 14 rfl rfl)
theorem dJ20_numberOfTrailingZeros_62 : decode cJ20_numberOfTrailingZeros 62 = .ok (.iload_n 0, 1) := dk_26 (dk_at dksJ20_numberOfTrailingZeros_2 15 rfl rfl)
theorem dJ20_numberOfTrailingZeros_63 : decode cJ20_numberOfTrailingZeros 63 = .ok (.iconst 4, 1) := dk_7 (dk_at dksJ20_numberOfTrailingZeros_2 16 rfl rfl)
theorem dJ20_numberOfTrailingZeros_64 : decode cJ20_numberOfTrailingZeros 64 = .ok (.if_icmp .le 10, 3) := dk_164 0 10 (dk_at dksJ20_numberOfTrailingZeros_2 17 rfl rfl)
theorem dJ20_numberOfTrailingZeros_67 : decode cJ20_numberOfTrailingZeros 67 = .ok (.iinc 1 2, 3) := dk_132 1 2 (dk_at dksJ20_numberOfTrailingZeros_2 20 rfl rfl)
theorem dJ20_numberOfTrailingZeros_70 : decode cJ20_numberOfTrailingZeros 70 = .ok (.iload_n 0, 1) := dk_26 (dk_at dksJ20_numberOfTrailingZeros_2 23 rfl rfl)
theorem dJ20_numberOfTrailingZeros_71 : decode cJ20_numberOfTrailingZeros 71 = .ok (.iconst 2, 1) := dk_5 (dk_at dksJ20_numberOfTrailingZeros_3 0 rfl rfl)
theorem dJ20_numberOfTrailingZeros_72 : decode cJ20_numberOfTrailingZeros 72 = .ok (.iushr, 1) := dk_124 (dk_at dksJ20_numberOfTrailingZeros_3 1 rfl rfl)
theorem dJ20_numberOfTrailingZeros_73 : decode cJ20_numberOfTrailingZeros 73 = .ok (.istore_n 0, 1) := dk_59 (dk_at dksJ20_numberOfTrailingZeros_3 2 rfl rfl)
theorem dJ20_numberOfTrailingZeros_74 : decode cJ20_numberOfTrailingZeros 74 = .ok (.iload_n 1, 1) := dk_27 (dk_at dksJ20_numberOfTrailingZeros_3 3 rfl rfl)
theorem dJ20_numberOfTrailingZeros_75 : decode cJ20_numberOfTrailingZeros 75 = .ok (.iload_n 0, 1) := dk_26 (dk_at dksJ20_numberOfTrailingZeros_3 4 rfl rfl)
theorem dJ20_numberOfTrailingZeros_76 : decode cJ20_numberOfTrailingZeros 76 = .ok (.iconst 1, 1) := dk_4 (dk_at dksJ20_numberOfTrailingZeros_3 5 rfl rfl)
theorem dJ20_numberOfTrailingZeros_77 : decode cJ20_numberOfTrailingZeros 77 = .ok (.iushr, 1) := dk_124 (dk_at dksJ20_numberOfTrailingZeros_3 6 rfl rfl)
theorem dJ20_numberOfTrailingZeros_78 : decode cJ20_numberOfTrailingZeros 78 = .ok (.iadd, 1) := dk_96 (dk_at dksJ20_numberOfTrailingZeros_3 7 rfl rfl)
theorem dJ20_numberOfTrailingZeros_79 : decode cJ20_numberOfTrailingZeros 79 = .ok (.ireturn, 1) := dk_172 (dk_at dksJ20_numberOfTrailingZeros_3 8 rfl rfl)
abbrev cJ20_valueOf : ByteArray := prog_27_method_22_code
def yJ20_valueOf : MethodName := ⟨RJ20, "valueOf", "(I)Ljava/lang/Integer;"⟩
def dkwJ20_valueOf_1 : List UInt8 := [187, 0, 1, 89, 26, 183, 0, 199, 176]
abbrev dktJ20_valueOf_1 : List UInt8 := dkwJ20_valueOf_1 ++ []
def dkwJ20_valueOf_0 : List UInt8 := [26, 16, 128, 161, 0, 20, 26, 178, 0, 191, 163, 0, 13, 178, 0, 195, 26, 17, 0, 128, 96, 50, 176]
abbrev dktJ20_valueOf_0 : List UInt8 := dkwJ20_valueOf_0 ++ dktJ20_valueOf_1
theorem dksJ20_valueOf_0 : cJ20_valueOf.data.toList.drop 0 = dktJ20_valueOf_0 := by decide +kernel
theorem dksJ20_valueOf_1 : cJ20_valueOf.data.toList.drop 23 = dktJ20_valueOf_1 := dk_seg dksJ20_valueOf_0 23 rfl rfl
theorem dJ20_valueOf_0 : decode cJ20_valueOf 0 = .ok (.iload_n 0, 1) := dk_26 (dk_at dksJ20_valueOf_0 0 rfl rfl)
theorem dJ20_valueOf_1 : decode cJ20_valueOf 1 = .ok (.bipush (-128), 2) := dk_16 128 (dk_at dksJ20_valueOf_0 1 rfl rfl)
theorem dJ20_valueOf_3 : decode cJ20_valueOf 3 = .ok (.if_icmp .lt 20, 3) := dk_161 0 20 (dk_at dksJ20_valueOf_0 3 rfl rfl)
theorem dJ20_valueOf_6 : decode cJ20_valueOf 6 = .ok (.iload_n 0, 1) := dk_26 (dk_at dksJ20_valueOf_0 6 rfl rfl)
theorem dJ20_valueOf_7 : decode cJ20_valueOf 7 = .ok (.getstatic 191, 3) := dk_178 0 191 (dk_at dksJ20_valueOf_0 7 rfl rfl)
theorem dJ20_valueOf_10 : decode cJ20_valueOf 10 = .ok (.if_icmp .gt 13, 3) := dk_163 0 13 (dk_at dksJ20_valueOf_0 10 rfl rfl)
theorem dJ20_valueOf_13 : decode cJ20_valueOf 13 = .ok (.getstatic 195, 3) := dk_178 0 195 (dk_at dksJ20_valueOf_0 13 rfl rfl)
theorem dJ20_valueOf_16 : decode cJ20_valueOf 16 = .ok (.iload_n 0, 1) := dk_26 (dk_at dksJ20_valueOf_0 16 rfl rfl)
theorem dJ20_valueOf_17 : decode cJ20_valueOf 17 = .ok (.sipush 128, 3) := dk_17 0 128 (dk_at dksJ20_valueOf_0 17 rfl rfl)
theorem dJ20_valueOf_20 : decode cJ20_valueOf 20 = .ok (.iadd, 1) := dk_96 (dk_at dksJ20_valueOf_0 20 rfl rfl)
theorem dJ20_valueOf_21 : decode cJ20_valueOf 21 = .ok (.aaload, 1) := dk_50 (dk_at dksJ20_valueOf_0 21 rfl rfl)
theorem dJ20_valueOf_22 : decode cJ20_valueOf 22 = .ok (.areturn, 1) := dk_176 (dk_at dksJ20_valueOf_0 22 rfl rfl)
theorem dJ20_valueOf_23 : decode cJ20_valueOf 23 = .ok (.new 1, 3) := dk_187 0 1 (dk_at dksJ20_valueOf_1 0 rfl rfl)
theorem dJ20_valueOf_26 : decode cJ20_valueOf 26 = .ok (.dup, 1) := dk_89 (dk_at dksJ20_valueOf_1 3 rfl rfl)
theorem dJ20_valueOf_27 : decode cJ20_valueOf 27 = .ok (.iload_n 0, 1) := dk_26 (dk_at dksJ20_valueOf_1 4 rfl rfl)
theorem dJ20_valueOf_28 : decode cJ20_valueOf 28 = .ok (.invokespecial 199, 3) := dk_183 0 199 (dk_at dksJ20_valueOf_1 5 rfl rfl)
theorem dJ20_valueOf_31 : decode cJ20_valueOf 31 = .ok (.areturn, 1) := dk_176 (dk_at dksJ20_valueOf_1 8 rfl rfl)
abbrev cJ20_init : ByteArray := prog_27_method_23_code
def yJ20_init : MethodName := ⟨RJ20, "<init>", "(I)V"⟩
def dkwJ20_init_0 : List UInt8 := [42, 183, 0, 202, 42, 27, 181, 0, 205, 177]
abbrev dktJ20_init_0 : List UInt8 := dkwJ20_init_0 ++ []
theorem dksJ20_init_0 : cJ20_init.data.toList.drop 0 = dktJ20_init_0 := by decide +kernel
theorem dJ20_init_0 : decode cJ20_init 0 = .ok (.aload_n 0, 1) := dk_42 (dk_at dksJ20_init_0 0 rfl rfl)
theorem dJ20_init_1 : decode cJ20_init 1 = .ok (.invokespecial 202, 3) := dk_183 0 202 (dk_at dksJ20_init_0 1 rfl rfl)
theorem dJ20_init_4 : decode cJ20_init 4 = .ok (.aload_n 0, 1) := dk_42 (dk_at dksJ20_init_0 4 rfl rfl)
theorem dJ20_init_5 : decode cJ20_init 5 = .ok (.iload_n 1, 1) := dk_27 (dk_at dksJ20_init_0 5 rfl rfl)
theorem dJ20_init_6 : decode cJ20_init 6 = .ok (.putfield 205, 3) := dk_181 0 205 (dk_at dksJ20_init_0 6 rfl rfl)
theorem dJ20_init_9 : decode cJ20_init 9 = .ok (.return_, 1) := dk_177 (dk_at dksJ20_init_0 9 rfl rfl)

/-! decode rows: J21.java_util_BitSet.lean.txt -/
set_option maxRecDepth 100000
abbrev cJ21_init : ByteArray := prog_54_method_5_code
def yJ21_init : MethodName := ⟨RJ21, "<init>", "(I)V"⟩
def dkwJ21_init_2 : List UInt8 := [27, 182, 0, 27, 42, 4, 181, 0, 24, 177]
abbrev dktJ21_init_2 : List UInt8 := dkwJ21_init_2 ++ []
def dkwJ21_init_1 : List UInt8 := [187, 0, 33, 89, 183, 0, 35, 18, 36, 182, 0, 38, 27, 182, 0, 42, 182, 0, 45, 183, 0, 49, 191, 42]
abbrev dktJ21_init_1 : List UInt8 := dkwJ21_init_1 ++ dktJ21_init_2
def dkwJ21_init_0 : List UInt8 := [42, 183, 0, 21, 42, 3, 181, 0, 7, 42, 3, 181, 0, 24, 27, 156, 0, 30, 187, 0, 31, 89]
abbrev dktJ21_init_0 : List UInt8 := dkwJ21_init_0 ++ dktJ21_init_1
theorem dksJ21_init_0 : cJ21_init.data.toList.drop 0 = dktJ21_init_0 := by decide +kernel
theorem dksJ21_init_1 : cJ21_init.data.toList.drop 22 = dktJ21_init_1 := dk_seg dksJ21_init_0 22 rfl rfl
theorem dksJ21_init_2 : cJ21_init.data.toList.drop 46 = dktJ21_init_2 := dk_seg dksJ21_init_1 24 rfl rfl
theorem dJ21_init_0 : decode cJ21_init 0 = .ok (.aload_n 0, 1) := dk_42 (dk_at dksJ21_init_0 0 rfl rfl)
theorem dJ21_init_1 : decode cJ21_init 1 = .ok (.invokespecial 21, 3) := dk_183 0 21 (dk_at dksJ21_init_0 1 rfl rfl)
theorem dJ21_init_4 : decode cJ21_init 4 = .ok (.aload_n 0, 1) := dk_42 (dk_at dksJ21_init_0 4 rfl rfl)
theorem dJ21_init_5 : decode cJ21_init 5 = .ok (.iconst 0, 1) := dk_3 (dk_at dksJ21_init_0 5 rfl rfl)
theorem dJ21_init_6 : decode cJ21_init 6 = .ok (.putfield 7, 3) := dk_181 0 7 (dk_at dksJ21_init_0 6 rfl rfl)
theorem dJ21_init_9 : decode cJ21_init 9 = .ok (.aload_n 0, 1) := dk_42 (dk_at dksJ21_init_0 9 rfl rfl)
theorem dJ21_init_10 : decode cJ21_init 10 = .ok (.iconst 0, 1) := dk_3 (dk_at dksJ21_init_0 10 rfl rfl)
theorem dJ21_init_11 : decode cJ21_init 11 = .ok (.putfield 24, 3) := dk_181 0 24 (dk_at dksJ21_init_0 11 rfl rfl)
theorem dJ21_init_14 : decode cJ21_init 14 = .ok (.iload_n 1, 1) := dk_27 (dk_at dksJ21_init_0 14 rfl rfl)
theorem dJ21_init_15 : decode cJ21_init 15 = .ok (.ifCond .ge 30, 3) := dk_156 0 30 (dk_at dksJ21_init_0 15 rfl rfl)
theorem dJ21_init_18 : decode cJ21_init 18 = .ok (.new 31, 3) := dk_187 0 31 (dk_at dksJ21_init_0 18 rfl rfl)
theorem dJ21_init_21 : decode cJ21_init 21 = .ok (.dup, 1) := dk_89 (dk_at dksJ21_init_0 21 rfl rfl)
theorem dJ21_init_22 : decode cJ21_init 22 = .ok (.new 33, 3) := dk_187 0 33 (dk_at dksJ21_init_1 0 rfl rfl)
theorem dJ21_init_25 : decode cJ21_init 25 = .ok (.dup, 1) := dk_89 (dk_at dksJ21_init_1 3 rfl rfl)
theorem dJ21_init_26 : decode cJ21_init 26 = .ok (.invokespecial 35, 3) := dk_183 0 35 (dk_at dksJ21_init_1 4 rfl rfl)
theorem dJ21_init_29 : decode cJ21_init 29 = .ok (.ldc 36, 2) := dk_18 36 (dk_at dksJ21_init_1 7 rfl rfl)
theorem dJ21_init_31 : decode cJ21_init 31 = .ok (.invokevirtual 38, 3) := dk_182 0 38 (dk_at dksJ21_init_1 9 rfl rfl)
theorem dJ21_init_34 : decode cJ21_init 34 = .ok (.iload_n 1, 1) := dk_27 (dk_at dksJ21_init_1 12 rfl rfl)
theorem dJ21_init_35 : decode cJ21_init 35 = .ok (.invokevirtual 42, 3) := dk_182 0 42 (dk_at dksJ21_init_1 13 rfl rfl)
theorem dJ21_init_38 : decode cJ21_init 38 = .ok (.invokevirtual 45, 3) := dk_182 0 45 (dk_at dksJ21_init_1 16 rfl rfl)
theorem dJ21_init_41 : decode cJ21_init 41 = .ok (.invokespecial 49, 3) := dk_183 0 49 (dk_at dksJ21_init_1 19 rfl rfl)
theorem dJ21_init_44 : decode cJ21_init 44 = .ok (.athrow, 1) := dk_191 (dk_at dksJ21_init_1 22 rfl rfl)
theorem dJ21_init_45 : decode cJ21_init 45 = .ok (.aload_n 0, 1) := dk_42 (dk_at dksJ21_init_1 23 rfl rfl)
theorem dJ21_init_46 : decode cJ21_init 46 = .ok (.iload_n 1, 1) := dk_27 (dk_at dksJ21_init_2 0 rfl rfl)
theorem dJ21_init_47 : decode cJ21_init 47 = .ok (.invokevirtual 27, 3) := dk_182 0 27 (dk_at dksJ21_init_2 1 rfl rfl)
theorem dJ21_init_50 : decode cJ21_init 50 = .ok (.aload_n 0, 1) := dk_42 (dk_at dksJ21_init_2 4 rfl rfl)
theorem dJ21_init_51 : decode cJ21_init 51 = .ok (.iconst 1, 1) := dk_4 (dk_at dksJ21_init_2 5 rfl rfl)
theorem dJ21_init_52 : decode cJ21_init 52 = .ok (.putfield 24, 3) := dk_181 0 24 (dk_at dksJ21_init_2 6 rfl rfl)
theorem dJ21_init_55 : decode cJ21_init 55 = .ok (.return_, 1) := dk_177 (dk_at dksJ21_init_2 9 rfl rfl)
abbrev cJ21_initWords : ByteArray := prog_54_method_6_code
def yJ21_initWords : MethodName := ⟨RJ21, "initWords", "(I)V"⟩
def dkwJ21_initWords_0 : List UInt8 := [42, 27, 4, 100, 184, 0, 52, 4, 96, 188, 11, 181, 0, 11, 177]
abbrev dktJ21_initWords_0 : List UInt8 := dkwJ21_initWords_0 ++ []
theorem dksJ21_initWords_0 : cJ21_initWords.data.toList.drop 0 = dktJ21_initWords_0 := by decide +kernel
theorem dJ21_initWords_0 : decode cJ21_initWords 0 = .ok (.aload_n 0, 1) := dk_42 (dk_at dksJ21_initWords_0 0 rfl rfl)
theorem dJ21_initWords_1 : decode cJ21_initWords 1 = .ok (.iload_n 1, 1) := dk_27 (dk_at dksJ21_initWords_0 1 rfl rfl)
theorem dJ21_initWords_2 : decode cJ21_initWords 2 = .ok (.iconst 1, 1) := dk_4 (dk_at dksJ21_initWords_0 2 rfl rfl)
theorem dJ21_initWords_3 : decode cJ21_initWords 3 = .ok (.isub, 1) := dk_100 (dk_at dksJ21_initWords_0 3 rfl rfl)
theorem dJ21_initWords_4 : decode cJ21_initWords 4 = .ok (.invokestatic 52, 3) := dk_184 0 52 (dk_at dksJ21_initWords_0 4 rfl rfl)
theorem dJ21_initWords_7 : decode cJ21_initWords 7 = .ok (.iconst 1, 1) := dk_4 (dk_at dksJ21_initWords_0 7 rfl rfl)
theorem dJ21_initWords_8 : decode cJ21_initWords 8 = .ok (.iadd, 1) := dk_96 (dk_at dksJ21_initWords_0 8 rfl rfl)
theorem dJ21_initWords_9 : decode cJ21_initWords 9 = .ok (.newarray .long, 2) := dk_188_11 (dk_at dksJ21_initWords_0 9 rfl rfl)
theorem dJ21_initWords_11 : decode cJ21_initWords 11 = .ok (.putfield 11, 3) := dk_181 0 11 (dk_at dksJ21_initWords_0 11 rfl rfl)
theorem dJ21_initWords_14 : decode cJ21_initWords 14 = .ok (.return_, 1) := dk_177 (dk_at dksJ21_initWords_0 14 rfl rfl)
abbrev cJ21_wordIndex : ByteArray := prog_54_method_1_code
def yJ21_wordIndex : MethodName := ⟨RJ21, "wordIndex", "(I)I"⟩
def dkwJ21_wordIndex_0 : List UInt8 := [26, 16, 6, 122, 172]
abbrev dktJ21_wordIndex_0 : List UInt8 := dkwJ21_wordIndex_0 ++ []
theorem dksJ21_wordIndex_0 : cJ21_wordIndex.data.toList.drop 0 = dktJ21_wordIndex_0 := by decide +kernel
theorem dJ21_wordIndex_0 : decode cJ21_wordIndex 0 = .ok (.iload_n 0, 1) := dk_26 (dk_at dksJ21_wordIndex_0 0 rfl rfl)
theorem dJ21_wordIndex_1 : decode cJ21_wordIndex 1 = .ok (.bipush 6, 2) := dk_16 6 (dk_at dksJ21_wordIndex_0 1 rfl rfl)
theorem dJ21_wordIndex_3 : decode cJ21_wordIndex 3 = .ok (.ishr, 1) := dk_122 (dk_at dksJ21_wordIndex_0 3 rfl rfl)
theorem dJ21_wordIndex_4 : decode cJ21_wordIndex 4 = .ok (.ireturn, 1) := dk_172 (dk_at dksJ21_wordIndex_0 4 rfl rfl)
abbrev cJ21_get : ByteArray := prog_54_method_26_code
def yJ21_get : MethodName := ⟨RJ21, "get", "(I)Z"⟩
def dkwJ21_get_2 : List UInt8 := [42, 180, 0, 11, 28, 47, 10, 27, 121, 127, 9, 148, 153, 0, 7, 4, 167, 0, 4, 3, 172]
abbrev dktJ21_get_2 : List UInt8 := dkwJ21_get_2 ++ []
def dkwJ21_get_1 : List UInt8 := [182, 0, 45, 183, 0, 146, 191, 42, 182, 0, 56, 27, 184, 0, 52, 61, 28, 42, 180, 0, 7, 162, 0, 22]
abbrev dktJ21_get_1 : List UInt8 := dkwJ21_get_1 ++ dktJ21_get_2
def dkwJ21_get_0 : List UInt8 := [27, 156, 0, 30, 187, 0, 142, 89, 187, 0, 33, 89, 183, 0, 35, 18, 153, 182, 0, 38, 27, 182, 0, 42]
abbrev dktJ21_get_0 : List UInt8 := dkwJ21_get_0 ++ dktJ21_get_1
theorem dksJ21_get_0 : cJ21_get.data.toList.drop 0 = dktJ21_get_0 := by decide +kernel
theorem dksJ21_get_1 : cJ21_get.data.toList.drop 24 = dktJ21_get_1 := dk_seg dksJ21_get_0 24 rfl rfl
theorem dksJ21_get_2 : cJ21_get.data.toList.drop 48 = dktJ21_get_2 := dk_seg dksJ21_get_1 24 rfl rfl
theorem dJ21_get_0 : decode cJ21_get 0 = .ok (.iload_n 1, 1) := dk_27 (dk_at dksJ21_get_0 0 rfl rfl)
theorem dJ21_get_1 : decode cJ21_get 1 = .ok (.ifCond .ge 30, 3) := dk_156 0 30 (dk_at dksJ21_get_0 1 rfl rfl)
theorem dJ21_get_4 : decode cJ21_get 4 = .ok (.new 142, 3) := dk_187 0 142 (dk_at dksJ21_get_0 4 rfl rfl)
theorem dJ21_get_7 : decode cJ21_get 7 = .ok (.dup, 1) := dk_89 (dk_at dksJ21_get_0 7 rfl rfl)
theorem dJ21_get_8 : decode cJ21_get 8 = .ok (.new 33, 3) := dk_187 0 33 (dk_at dksJ21_get_0 8 rfl rfl)
theorem dJ21_get_11 : decode cJ21_get 11 = .ok (.dup, 1) := dk_89 (dk_at dksJ21_get_0 11 rfl rfl)
theorem dJ21_get_12 : decode cJ21_get 12 = .ok (.invokespecial 35, 3) := dk_183 0 35 (dk_at dksJ21_get_0 12 rfl rfl)
theorem dJ21_get_15 : decode cJ21_get 15 = .ok (.ldc 153, 2) := dk_18 153 (dk_at dksJ21_get_0 15 rfl rfl)
theorem dJ21_get_17 : decode cJ21_get 17 = .ok (.invokevirtual 38, 3) := dk_182 0 38 (dk_at dksJ21_get_0 17 rfl rfl)
theorem dJ21_get_20 : decode cJ21_get 20 = .ok (.iload_n 1, 1) := dk_27 (dk_at dksJ21_get_0 20 rfl rfl)
theorem dJ21_get_21 : decode cJ21_get 21 = .ok (.invokevirtual 42, 3) := dk_182 0 42 (dk_at dksJ21_get_0 21 rfl rfl)
theorem dJ21_get_24 : decode cJ21_get 24 = .ok (.invokevirtual 45, 3) := dk_182 0 45 (dk_at dksJ21_get_1 0 rfl rfl)
theorem dJ21_get_27 : decode cJ21_get 27 = .ok (.invokespecial 146, 3) := dk_183 0 146 (dk_at dksJ21_get_1 3 rfl rfl)
theorem dJ21_get_30 : decode cJ21_get 30 = .ok (.athrow, 1) := dk_191 (dk_at dksJ21_get_1 6 rfl rfl)
theorem dJ21_get_31 : decode cJ21_get 31 = .ok (.aload_n 0, 1) := dk_42 (dk_at dksJ21_get_1 7 rfl rfl)
theorem dJ21_get_32 : decode cJ21_get 32 = .ok (.invokevirtual 56, 3) := dk_182 0 56 (dk_at dksJ21_get_1 8 rfl rfl)
theorem dJ21_get_35 : decode cJ21_get 35 = .ok (.iload_n 1, 1) := dk_27 (dk_at dksJ21_get_1 11 rfl rfl)
theorem dJ21_get_36 : decode cJ21_get 36 = .ok (.invokestatic 52, 3) := dk_184 0 52 (dk_at dksJ21_get_1 12 rfl rfl)
theorem dJ21_get_39 : decode cJ21_get 39 = .ok (.istore_n 2, 1) := dk_61 (dk_at dksJ21_get_1 15 rfl rfl)
theorem dJ21_get_40 : decode cJ21_get 40 = .ok (.iload_n 2, 1) := dk_28 (dk_at dksJ21_get_1 16 rfl rfl)
theorem dJ21_get_41 : decode cJ21_get 41 = .ok (.aload_n 0, 1) := dk_42 (dk_at dksJ21_get_1 17 rfl rfl)
theorem dJ21_get_42 : decode cJ21_get 42 = .ok (.getfield 7, 3) := dk_180 0 7 (dk_at dksJ21_get_1 18 rfl rfl)
theorem dJ21_get_45 : decode cJ21_get 45 = .ok (.if_icmp .ge 22, 3) := dk_162 0 22 (dk_at dksJ21_get_1 21 rfl rfl)
theorem dJ21_get_48 : decode cJ21_get 48 = .ok (.aload_n 0, 1) := dk_42 (dk_at dksJ21_get_2 0 rfl rfl)
theorem dJ21_get_49 : decode cJ21_get 49 = .ok (.getfield 11, 3) := dk_180 0 11 (dk_at dksJ21_get_2 1 rfl rfl)
theorem dJ21_get_52 : decode cJ21_get 52 = .ok (.iload_n 2, 1) := dk_28 (dk_at dksJ21_get_2 4 rfl rfl)
theorem dJ21_get_53 : decode cJ21_get 53 = .ok (.laload, 1) := dk_47 (dk_at dksJ21_get_2 5 rfl rfl)
theorem dJ21_get_54 : decode cJ21_get 54 = .ok (.lconst 1, 1) := dk_10 (dk_at dksJ21_get_2 6 rfl rfl)
theorem dJ21_get_55 : decode cJ21_get 55 = .ok (.iload_n 1, 1) := dk_27 (dk_at dksJ21_get_2 7 rfl rfl)
theorem dJ21_get_56 : decode cJ21_get 56 = .ok (.lshl, 1) := dk_121 (dk_at dksJ21_get_2 8 rfl rfl)
theorem dJ21_get_57 : decode cJ21_get 57 = .ok (.land, 1) := dk_127 (dk_at dksJ21_get_2 9 rfl rfl)
theorem dJ21_get_58 : decode cJ21_get 58 = .ok (.lconst 0, 1) := dk_9 (dk_at dksJ21_get_2 10 rfl rfl)
theorem dJ21_get_59 : decode cJ21_get 59 = .ok (.lcmp, 1) := dk_148 (dk_at dksJ21_get_2 11 rfl rfl)
theorem dJ21_get_60 : decode cJ21_get 60 = .ok (.ifCond .eq 7, 3) := dk_153 0 7 (dk_at dksJ21_get_2 12 rfl rfl)
theorem dJ21_get_63 : decode cJ21_get 63 = .ok (.iconst 1, 1) := dk_4 (dk_at dksJ21_get_2 15 rfl rfl)
theorem dJ21_get_64 : decode cJ21_get 64 = .ok (.goto 4, 3) := dk_167 0 4 (dk_at dksJ21_get_2 16 rfl rfl)
theorem dJ21_get_67 : decode cJ21_get 67 = .ok (.iconst 0, 1) := dk_3 (dk_at dksJ21_get_2 19 rfl rfl)
theorem dJ21_get_68 : decode cJ21_get 68 = .ok (.ireturn, 1) := dk_172 (dk_at dksJ21_get_2 20 rfl rfl)
abbrev cJ21_checkInvariants : ByteArray := prog_54_method_2_code
def yJ21_checkInvariants : MethodName := ⟨RJ21, "checkInvariants", "()V"⟩
def dkwJ21_checkInvariants_4 : List UInt8 := [180, 0, 7, 47, 9, 148, 153, 0, 11, 187, 0, 15, 89, 183, 0, 17, 191, 177]
abbrev dktJ21_checkInvariants_4 : List UInt8 := dkwJ21_checkInvariants_4 ++ []
def dkwJ21_checkInvariants_3 : List UInt8 := [178, 0, 3, 154, 0, 37, 42, 180, 0, 7, 42, 180, 0, 11, 190, 159, 0, 25, 42, 180, 0, 11, 42]
abbrev dktJ21_checkInvariants_3 : List UInt8 := dkwJ21_checkInvariants_3 ++ dktJ21_checkInvariants_4
def dkwJ21_checkInvariants_2 : List UInt8 := [155, 0, 15, 42, 180, 0, 7, 42, 180, 0, 11, 190, 164, 0, 11, 187, 0, 15, 89, 183, 0, 17, 191]
abbrev dktJ21_checkInvariants_2 : List UInt8 := dkwJ21_checkInvariants_2 ++ dktJ21_checkInvariants_3
def dkwJ21_checkInvariants_1 : List UInt8 := [9, 148, 154, 0, 11, 187, 0, 15, 89, 183, 0, 17, 191, 178, 0, 3, 154, 0, 30, 42, 180, 0, 7]
abbrev dktJ21_checkInvariants_1 : List UInt8 := dkwJ21_checkInvariants_1 ++ dktJ21_checkInvariants_2
def dkwJ21_checkInvariants_0 : List UInt8 := [178, 0, 3, 154, 0, 34, 42, 180, 0, 7, 153, 0, 27, 42, 180, 0, 11, 42, 180, 0, 7, 4, 100, 47]
abbrev dktJ21_checkInvariants_0 : List UInt8 := dkwJ21_checkInvariants_0 ++ dktJ21_checkInvariants_1
theorem dksJ21_checkInvariants_0 : cJ21_checkInvariants.data.toList.drop 0 = dktJ21_checkInvariants_0 := by decide +kernel
theorem dksJ21_checkInvariants_1 : cJ21_checkInvariants.data.toList.drop 24 = dktJ21_checkInvariants_1 := dk_seg dksJ21_checkInvariants_0 24 rfl rfl
theorem dksJ21_checkInvariants_2 : cJ21_checkInvariants.data.toList.drop 47 = dktJ21_checkInvariants_2 := dk_seg dksJ21_checkInvariants_1 23 rfl rfl
theorem dksJ21_checkInvariants_3 : cJ21_checkInvariants.data.toList.drop 70 = dktJ21_checkInvariants_3 := dk_seg dksJ21_checkInvariants_2 23 rfl rfl
theorem dksJ21_checkInvariants_4 : cJ21_checkInvariants.data.toList.drop 93 = dktJ21_checkInvariants_4 := dk_seg dksJ21_checkInvariants_3 23 rfl rfl
theorem dJ21_checkInvariants_0 : decode cJ21_checkInvariants 0 = .ok (.getstatic 3, 3) := dk_178 0 3 (dk_at dksJ21_checkInvariants_0 0 rfl rfl)
theorem dJ21_checkInvariants_3 : decode cJ21_checkInvariants 3 = .ok (.ifCond .ne 34, 3) := dk_154 0 34 (dk_at dksJ21_checkInvariants_0 3 rfl rfl)
theorem dJ21_checkInvariants_6 : decode cJ21_checkInvariants 6 = .ok (.aload_n 0, 1) := dk_42 (dk_at dksJ21_checkInvariants_0 6 rfl rfl)
theorem dJ21_checkInvariants_7 : decode cJ21_checkInvariants 7 = .ok (.getfield 7, 3) := dk_180 0 7 (dk_at dksJ21_checkInvariants_0 7 rfl rfl)
theorem dJ21_checkInvariants_10 : decode cJ21_checkInvariants 10 = .ok (.ifCond .eq 27, 3) := dk_153 0 27 (dk_at dksJ21_checkInvariants_0 10 rfl rfl)
theorem dJ21_checkInvariants_13 : decode cJ21_checkInvariants 13 = .ok (.aload_n 0, 1) := dk_42 (dk_at dksJ21_checkInvariants_0 13 rfl rfl)
theorem dJ21_checkInvariants_14 : decode cJ21_checkInvariants 14 = .ok (.getfield 11, 3) := dk_180 0 11 (dk_at dksJ21_checkInvariants_0 14 rfl rfl)
theorem dJ21_checkInvariants_17 : decode cJ21_checkInvariants 17 = .ok (.aload_n 0, 1) := dk_42 (dk_at dksJ21_checkInvariants_0 17 rfl rfl)
theorem dJ21_checkInvariants_18 : decode cJ21_checkInvariants 18 = .ok (.getfield 7, 3) := dk_180 0 7 (dk_at dksJ21_checkInvariants_0 18 rfl rfl)
theorem dJ21_checkInvariants_21 : decode cJ21_checkInvariants 21 = .ok (.iconst 1, 1) := dk_4 (dk_at dksJ21_checkInvariants_0 21 rfl rfl)
theorem dJ21_checkInvariants_22 : decode cJ21_checkInvariants 22 = .ok (.isub, 1) := dk_100 (dk_at dksJ21_checkInvariants_0 22 rfl rfl)
theorem dJ21_checkInvariants_23 : decode cJ21_checkInvariants 23 = .ok (.laload, 1) := dk_47 (dk_at dksJ21_checkInvariants_0 23 rfl rfl)
theorem dJ21_checkInvariants_24 : decode cJ21_checkInvariants 24 = .ok (.lconst 0, 1) := dk_9 (dk_at dksJ21_checkInvariants_1 0 rfl rfl)
theorem dJ21_checkInvariants_25 : decode cJ21_checkInvariants 25 = .ok (.lcmp, 1) := dk_148 (dk_at dksJ21_checkInvariants_1 1 rfl rfl)
theorem dJ21_checkInvariants_26 : decode cJ21_checkInvariants 26 = .ok (.ifCond .ne 11, 3) := dk_154 0 11 (dk_at dksJ21_checkInvariants_1 2 rfl rfl)
theorem dJ21_checkInvariants_29 : decode cJ21_checkInvariants 29 = .ok (.new 15, 3) := dk_187 0 15 (dk_at dksJ21_checkInvariants_1 5 rfl rfl)
theorem dJ21_checkInvariants_32 : decode cJ21_checkInvariants 32 = .ok (.dup, 1) := dk_89 (dk_at dksJ21_checkInvariants_1 8 rfl rfl)
theorem dJ21_checkInvariants_33 : decode cJ21_checkInvariants 33 = .ok (.invokespecial 17, 3) := dk_183 0 17 (dk_at dksJ21_checkInvariants_1 9 rfl rfl)
theorem dJ21_checkInvariants_36 : decode cJ21_checkInvariants 36 = .ok (.athrow, 1) := dk_191 (dk_at dksJ21_checkInvariants_1 12 rfl rfl)
theorem dJ21_checkInvariants_37 : decode cJ21_checkInvariants 37 = .ok (.getstatic 3, 3) := dk_178 0 3 (dk_at dksJ21_checkInvariants_1 13 rfl rfl)
theorem dJ21_checkInvariants_40 : decode cJ21_checkInvariants 40 = .ok (.ifCond .ne 30, 3) := dk_154 0 30 (dk_at dksJ21_checkInvariants_1 16 rfl rfl)
theorem dJ21_checkInvariants_43 : decode cJ21_checkInvariants 43 = .ok (.aload_n 0, 1) := dk_42 (dk_at dksJ21_checkInvariants_1 19 rfl rfl)
theorem dJ21_checkInvariants_44 : decode cJ21_checkInvariants 44 = .ok (.getfield 7, 3) := dk_180 0 7 (dk_at dksJ21_checkInvariants_1 20 rfl rfl)
theorem dJ21_checkInvariants_47 : decode cJ21_checkInvariants 47 = .ok (.ifCond .lt 15, 3) := dk_155 0 15 (dk_at dksJ21_checkInvariants_2 0 rfl rfl)
theorem dJ21_checkInvariants_50 : decode cJ21_checkInvariants 50 = .ok (.aload_n 0, 1) := dk_42 (dk_at dksJ21_checkInvariants_2 3 rfl rfl)
theorem dJ21_checkInvariants_51 : decode cJ21_checkInvariants 51 = .ok (.getfield 7, 3) := dk_180 0 7 (dk_at dksJ21_checkInvariants_2 4 rfl rfl)
theorem dJ21_checkInvariants_54 : decode cJ21_checkInvariants 54 = .ok (.aload_n 0, 1) := dk_42 (dk_at dksJ21_checkInvariants_2 7 rfl rfl)
theorem dJ21_checkInvariants_55 : decode cJ21_checkInvariants 55 = .ok (.getfield 11, 3) := dk_180 0 11 (dk_at dksJ21_checkInvariants_2 8 rfl rfl)
theorem dJ21_checkInvariants_58 : decode cJ21_checkInvariants 58 = .ok (.arraylength, 1) := dk_190 (dk_at dksJ21_checkInvariants_2 11 rfl rfl)
theorem dJ21_checkInvariants_59 : decode cJ21_checkInvariants 59 = .ok (.if_icmp .le 11, 3) := dk_164 0 11 (dk_at dksJ21_checkInvariants_2 12 rfl rfl)
theorem dJ21_checkInvariants_62 : decode cJ21_checkInvariants 62 = .ok (.new 15, 3) := dk_187 0 15 (dk_at dksJ21_checkInvariants_2 15 rfl rfl)
theorem dJ21_checkInvariants_65 : decode cJ21_checkInvariants 65 = .ok (.dup, 1) := dk_89 (dk_at dksJ21_checkInvariants_2 18 rfl rfl)
theorem dJ21_checkInvariants_66 : decode cJ21_checkInvariants 66 = .ok (.invokespecial 17, 3) := dk_183 0 17 (dk_at dksJ21_checkInvariants_2 19 rfl rfl)
theorem dJ21_checkInvariants_69 : decode cJ21_checkInvariants 69 = .ok (.athrow, 1) := dk_191 (dk_at dksJ21_checkInvariants_2 22 rfl rfl)
theorem dJ21_checkInvariants_70 : decode cJ21_checkInvariants 70 = .ok (.getstatic 3, 3) := dk_178 0 3 (dk_at dksJ21_checkInvariants_3 0 rfl rfl)
theorem dJ21_checkInvariants_73 : decode cJ21_checkInvariants 73 = .ok (.ifCond .ne 37, 3) := dk_154 0 37 (dk_at dksJ21_checkInvariants_3 3 rfl rfl)
theorem dJ21_checkInvariants_76 : decode cJ21_checkInvariants 76 = .ok (.aload_n 0, 1) := dk_42 (dk_at dksJ21_checkInvariants_3 6 rfl rfl)
theorem dJ21_checkInvariants_77 : decode cJ21_checkInvariants 77 = .ok (.getfield 7, 3) := dk_180 0 7 (dk_at dksJ21_checkInvariants_3 7 rfl rfl)
theorem dJ21_checkInvariants_80 : decode cJ21_checkInvariants 80 = .ok (.aload_n 0, 1) := dk_42 (dk_at dksJ21_checkInvariants_3 10 rfl rfl)
theorem dJ21_checkInvariants_81 : decode cJ21_checkInvariants 81 = .ok (.getfield 11, 3) := dk_180 0 11 (dk_at dksJ21_checkInvariants_3 11 rfl rfl)
theorem dJ21_checkInvariants_84 : decode cJ21_checkInvariants 84 = .ok (.arraylength, 1) := dk_190 (dk_at dksJ21_checkInvariants_3 14 rfl rfl)
theorem dJ21_checkInvariants_85 : decode cJ21_checkInvariants 85 = .ok (.if_icmp .eq 25, 3) := dk_159 0 25 (dk_at dksJ21_checkInvariants_3 15 rfl rfl)
theorem dJ21_checkInvariants_88 : decode cJ21_checkInvariants 88 = .ok (.aload_n 0, 1) := dk_42 (dk_at dksJ21_checkInvariants_3 18 rfl rfl)
theorem dJ21_checkInvariants_89 : decode cJ21_checkInvariants 89 = .ok (.getfield 11, 3) := dk_180 0 11 (dk_at dksJ21_checkInvariants_3 19 rfl rfl)
theorem dJ21_checkInvariants_92 : decode cJ21_checkInvariants 92 = .ok (.aload_n 0, 1) := dk_42 (dk_at dksJ21_checkInvariants_3 22 rfl rfl)
theorem dJ21_checkInvariants_93 : decode cJ21_checkInvariants 93 = .ok (.getfield 7, 3) := dk_180 0 7 (dk_at dksJ21_checkInvariants_4 0 rfl rfl)
theorem dJ21_checkInvariants_96 : decode cJ21_checkInvariants 96 = .ok (.laload, 1) := dk_47 (dk_at dksJ21_checkInvariants_4 3 rfl rfl)
theorem dJ21_checkInvariants_97 : decode cJ21_checkInvariants 97 = .ok (.lconst 0, 1) := dk_9 (dk_at dksJ21_checkInvariants_4 4 rfl rfl)
theorem dJ21_checkInvariants_98 : decode cJ21_checkInvariants 98 = .ok (.lcmp, 1) := dk_148 (dk_at dksJ21_checkInvariants_4 5 rfl rfl)
theorem dJ21_checkInvariants_99 : decode cJ21_checkInvariants 99 = .ok (.ifCond .eq 11, 3) := dk_153 0 11 (dk_at dksJ21_checkInvariants_4 6 rfl rfl)
theorem dJ21_checkInvariants_102 : decode cJ21_checkInvariants 102 = .ok (.new 15, 3) := dk_187 0 15 (dk_at dksJ21_checkInvariants_4 9 rfl rfl)
theorem dJ21_checkInvariants_105 : decode cJ21_checkInvariants 105 = .ok (.dup, 1) := dk_89 (dk_at dksJ21_checkInvariants_4 12 rfl rfl)
theorem dJ21_checkInvariants_106 : decode cJ21_checkInvariants 106 = .ok (.invokespecial 17, 3) := dk_183 0 17 (dk_at dksJ21_checkInvariants_4 13 rfl rfl)
theorem dJ21_checkInvariants_109 : decode cJ21_checkInvariants 109 = .ok (.athrow, 1) := dk_191 (dk_at dksJ21_checkInvariants_4 16 rfl rfl)
theorem dJ21_checkInvariants_110 : decode cJ21_checkInvariants 110 = .ok (.return_, 1) := dk_177 (dk_at dksJ21_checkInvariants_4 17 rfl rfl)
abbrev cJ21_set : ByteArray := prog_54_method_19_code
def yJ21_set : MethodName := ⟨RJ21, "set", "(I)V"⟩
def dkwJ21_set_2 : List UInt8 := [10, 27, 121, 129, 80, 42, 182, 0, 56, 177]
abbrev dktJ21_set_2 : List UInt8 := dkwJ21_set_2 ++ []
def dkwJ21_set_1 : List UInt8 := [182, 0, 45, 183, 0, 146, 191, 27, 184, 0, 52, 61, 42, 28, 182, 0, 155, 42, 180, 0, 11, 28, 92, 47]
abbrev dktJ21_set_1 : List UInt8 := dkwJ21_set_1 ++ dktJ21_set_2
def dkwJ21_set_0 : List UInt8 := [27, 156, 0, 30, 187, 0, 142, 89, 187, 0, 33, 89, 183, 0, 35, 18, 153, 182, 0, 38, 27, 182, 0, 42]
abbrev dktJ21_set_0 : List UInt8 := dkwJ21_set_0 ++ dktJ21_set_1
theorem dksJ21_set_0 : cJ21_set.data.toList.drop 0 = dktJ21_set_0 := by decide +kernel
theorem dksJ21_set_1 : cJ21_set.data.toList.drop 24 = dktJ21_set_1 := dk_seg dksJ21_set_0 24 rfl rfl
theorem dksJ21_set_2 : cJ21_set.data.toList.drop 48 = dktJ21_set_2 := dk_seg dksJ21_set_1 24 rfl rfl
theorem dJ21_set_0 : decode cJ21_set 0 = .ok (.iload_n 1, 1) := dk_27 (dk_at dksJ21_set_0 0 rfl rfl)
theorem dJ21_set_1 : decode cJ21_set 1 = .ok (.ifCond .ge 30, 3) := dk_156 0 30 (dk_at dksJ21_set_0 1 rfl rfl)
theorem dJ21_set_4 : decode cJ21_set 4 = .ok (.new 142, 3) := dk_187 0 142 (dk_at dksJ21_set_0 4 rfl rfl)
theorem dJ21_set_7 : decode cJ21_set 7 = .ok (.dup, 1) := dk_89 (dk_at dksJ21_set_0 7 rfl rfl)
theorem dJ21_set_8 : decode cJ21_set 8 = .ok (.new 33, 3) := dk_187 0 33 (dk_at dksJ21_set_0 8 rfl rfl)
theorem dJ21_set_11 : decode cJ21_set 11 = .ok (.dup, 1) := dk_89 (dk_at dksJ21_set_0 11 rfl rfl)
theorem dJ21_set_12 : decode cJ21_set 12 = .ok (.invokespecial 35, 3) := dk_183 0 35 (dk_at dksJ21_set_0 12 rfl rfl)
theorem dJ21_set_15 : decode cJ21_set 15 = .ok (.ldc 153, 2) := dk_18 153 (dk_at dksJ21_set_0 15 rfl rfl)
theorem dJ21_set_17 : decode cJ21_set 17 = .ok (.invokevirtual 38, 3) := dk_182 0 38 (dk_at dksJ21_set_0 17 rfl rfl)
theorem dJ21_set_20 : decode cJ21_set 20 = .ok (.iload_n 1, 1) := dk_27 (dk_at dksJ21_set_0 20 rfl rfl)
theorem dJ21_set_21 : decode cJ21_set 21 = .ok (.invokevirtual 42, 3) := dk_182 0 42 (dk_at dksJ21_set_0 21 rfl rfl)
theorem dJ21_set_24 : decode cJ21_set 24 = .ok (.invokevirtual 45, 3) := dk_182 0 45 (dk_at dksJ21_set_1 0 rfl rfl)
theorem dJ21_set_27 : decode cJ21_set 27 = .ok (.invokespecial 146, 3) := dk_183 0 146 (dk_at dksJ21_set_1 3 rfl rfl)
theorem dJ21_set_30 : decode cJ21_set 30 = .ok (.athrow, 1) := dk_191 (dk_at dksJ21_set_1 6 rfl rfl)
theorem dJ21_set_31 : decode cJ21_set 31 = .ok (.iload_n 1, 1) := dk_27 (dk_at dksJ21_set_1 7 rfl rfl)
theorem dJ21_set_32 : decode cJ21_set 32 = .ok (.invokestatic 52, 3) := dk_184 0 52 (dk_at dksJ21_set_1 8 rfl rfl)
theorem dJ21_set_35 : decode cJ21_set 35 = .ok (.istore_n 2, 1) := dk_61 (dk_at dksJ21_set_1 11 rfl rfl)
theorem dJ21_set_36 : decode cJ21_set 36 = .ok (.aload_n 0, 1) := dk_42 (dk_at dksJ21_set_1 12 rfl rfl)
theorem dJ21_set_37 : decode cJ21_set 37 = .ok (.iload_n 2, 1) := dk_28 (dk_at dksJ21_set_1 13 rfl rfl)
theorem dJ21_set_38 : decode cJ21_set 38 = .ok (.invokevirtual 155, 3) := dk_182 0 155 (dk_at dksJ21_set_1 14 rfl rfl)
theorem dJ21_set_41 : decode cJ21_set 41 = .ok (.aload_n 0, 1) := dk_42 (dk_at dksJ21_set_1 17 rfl rfl)
theorem dJ21_set_42 : decode cJ21_set 42 = .ok (.getfield 11, 3) := dk_180 0 11 (dk_at dksJ21_set_1 18 rfl rfl)
theorem dJ21_set_45 : decode cJ21_set 45 = .ok (.iload_n 2, 1) := dk_28 (dk_at dksJ21_set_1 21 rfl rfl)
theorem dJ21_set_46 : decode cJ21_set 46 = .ok (.dup2, 1) := dk_92 (dk_at dksJ21_set_1 22 rfl rfl)
theorem dJ21_set_47 : decode cJ21_set 47 = .ok (.laload, 1) := dk_47 (dk_at dksJ21_set_1 23 rfl rfl)
theorem dJ21_set_48 : decode cJ21_set 48 = .ok (.lconst 1, 1) := dk_10 (dk_at dksJ21_set_2 0 rfl rfl)
theorem dJ21_set_49 : decode cJ21_set 49 = .ok (.iload_n 1, 1) := dk_27 (dk_at dksJ21_set_2 1 rfl rfl)
theorem dJ21_set_50 : decode cJ21_set 50 = .ok (.lshl, 1) := dk_121 (dk_at dksJ21_set_2 2 rfl rfl)
theorem dJ21_set_51 : decode cJ21_set 51 = .ok (.lor, 1) := dk_129 (dk_at dksJ21_set_2 3 rfl rfl)
theorem dJ21_set_52 : decode cJ21_set 52 = .ok (.lastore, 1) := dk_80 (dk_at dksJ21_set_2 4 rfl rfl)
theorem dJ21_set_53 : decode cJ21_set 53 = .ok (.aload_n 0, 1) := dk_42 (dk_at dksJ21_set_2 5 rfl rfl)
theorem dJ21_set_54 : decode cJ21_set 54 = .ok (.invokevirtual 56, 3) := dk_182 0 56 (dk_at dksJ21_set_2 6 rfl rfl)
theorem dJ21_set_57 : decode cJ21_set 57 = .ok (.return_, 1) := dk_177 (dk_at dksJ21_set_2 9 rfl rfl)
abbrev cJ21_expandTo : ByteArray := prog_54_method_15_code
def yJ21_expandTo : MethodName := ⟨RJ21, "expandTo", "(I)V"⟩
def dkwJ21_expandTo_0 : List UInt8 := [27, 4, 96, 61, 42, 180, 0, 7, 28, 162, 0, 13, 42, 28, 182, 0, 139, 42, 28, 181, 0, 7, 177]
abbrev dktJ21_expandTo_0 : List UInt8 := dkwJ21_expandTo_0 ++ []
theorem dksJ21_expandTo_0 : cJ21_expandTo.data.toList.drop 0 = dktJ21_expandTo_0 := by decide +kernel
theorem dJ21_expandTo_0 : decode cJ21_expandTo 0 = .ok (.iload_n 1, 1) := dk_27 (dk_at dksJ21_expandTo_0 0 rfl rfl)
theorem dJ21_expandTo_1 : decode cJ21_expandTo 1 = .ok (.iconst 1, 1) := dk_4 (dk_at dksJ21_expandTo_0 1 rfl rfl)
theorem dJ21_expandTo_2 : decode cJ21_expandTo 2 = .ok (.iadd, 1) := dk_96 (dk_at dksJ21_expandTo_0 2 rfl rfl)
theorem dJ21_expandTo_3 : decode cJ21_expandTo 3 = .ok (.istore_n 2, 1) := dk_61 (dk_at dksJ21_expandTo_0 3 rfl rfl)
theorem dJ21_expandTo_4 : decode cJ21_expandTo 4 = .ok (.aload_n 0, 1) := dk_42 (dk_at dksJ21_expandTo_0 4 rfl rfl)
theorem dJ21_expandTo_5 : decode cJ21_expandTo 5 = .ok (.getfield 7, 3) := dk_180 0 7 (dk_at dksJ21_expandTo_0 5 rfl rfl)
theorem dJ21_expandTo_8 : decode cJ21_expandTo 8 = .ok (.iload_n 2, 1) := dk_28 (dk_at dksJ21_expandTo_0 8 rfl rfl)
theorem dJ21_expandTo_9 : decode cJ21_expandTo 9 = .ok (.if_icmp .ge 13, 3) := dk_162 0 13 (dk_at dksJ21_expandTo_0 9 rfl rfl)
theorem dJ21_expandTo_12 : decode cJ21_expandTo 12 = .ok (.aload_n 0, 1) := dk_42 (dk_at dksJ21_expandTo_0 12 rfl rfl)
theorem dJ21_expandTo_13 : decode cJ21_expandTo 13 = .ok (.iload_n 2, 1) := dk_28 (dk_at dksJ21_expandTo_0 13 rfl rfl)
theorem dJ21_expandTo_14 : decode cJ21_expandTo 14 = .ok (.invokevirtual 139, 3) := dk_182 0 139 (dk_at dksJ21_expandTo_0 14 rfl rfl)
theorem dJ21_expandTo_17 : decode cJ21_expandTo 17 = .ok (.aload_n 0, 1) := dk_42 (dk_at dksJ21_expandTo_0 17 rfl rfl)
theorem dJ21_expandTo_18 : decode cJ21_expandTo 18 = .ok (.iload_n 2, 1) := dk_28 (dk_at dksJ21_expandTo_0 18 rfl rfl)
theorem dJ21_expandTo_19 : decode cJ21_expandTo 19 = .ok (.putfield 7, 3) := dk_181 0 7 (dk_at dksJ21_expandTo_0 19 rfl rfl)
theorem dJ21_expandTo_22 : decode cJ21_expandTo 22 = .ok (.return_, 1) := dk_177 (dk_at dksJ21_expandTo_0 22 rfl rfl)
abbrev cJ21_ensureCapacity : ByteArray := prog_54_method_14_code
def yJ21_ensureCapacity : MethodName := ⟨RJ21, "ensureCapacity", "(I)V"⟩
def dkwJ21_ensureCapacity_1 : List UInt8 := [180, 0, 11, 28, 184, 0, 59, 181, 0, 11, 42, 3, 181, 0, 24, 177]
abbrev dktJ21_ensureCapacity_1 : List UInt8 := dkwJ21_ensureCapacity_1 ++ []
def dkwJ21_ensureCapacity_0 : List UInt8 := [42, 180, 0, 11, 190, 27, 162, 0, 32, 5, 42, 180, 0, 11, 190, 104, 27, 184, 0, 133, 61, 42, 42]
abbrev dktJ21_ensureCapacity_0 : List UInt8 := dkwJ21_ensureCapacity_0 ++ dktJ21_ensureCapacity_1
theorem dksJ21_ensureCapacity_0 : cJ21_ensureCapacity.data.toList.drop 0 = dktJ21_ensureCapacity_0 := by decide +kernel
theorem dksJ21_ensureCapacity_1 : cJ21_ensureCapacity.data.toList.drop 23 = dktJ21_ensureCapacity_1 := dk_seg dksJ21_ensureCapacity_0 23 rfl rfl
theorem dJ21_ensureCapacity_0 : decode cJ21_ensureCapacity 0 = .ok (.aload_n 0, 1) := dk_42 (dk_at dksJ21_ensureCapacity_0 0 rfl rfl)
theorem dJ21_ensureCapacity_1 : decode cJ21_ensureCapacity 1 = .ok (.getfield 11, 3) := dk_180 0 11 (dk_at dksJ21_ensureCapacity_0 1 rfl rfl)
theorem dJ21_ensureCapacity_4 : decode cJ21_ensureCapacity 4 = .ok (.arraylength, 1) := dk_190 (dk_at dksJ21_ensureCapacity_0 4 rfl rfl)
theorem dJ21_ensureCapacity_5 : decode cJ21_ensureCapacity 5 = .ok (.iload_n 1, 1) := dk_27 (dk_at dksJ21_ensureCapacity_0 5 rfl rfl)
theorem dJ21_ensureCapacity_6 : decode cJ21_ensureCapacity 6 = .ok (.if_icmp .ge 32, 3) := dk_162 0 32 (dk_at dksJ21_ensureCapacity_0 6 rfl rfl)
theorem dJ21_ensureCapacity_9 : decode cJ21_ensureCapacity 9 = .ok (.iconst 2, 1) := dk_5 (dk_at dksJ21_ensureCapacity_0 9 rfl rfl)
theorem dJ21_ensureCapacity_10 : decode cJ21_ensureCapacity 10 = .ok (.aload_n 0, 1) := dk_42 (dk_at dksJ21_ensureCapacity_0 10 rfl rfl)
theorem dJ21_ensureCapacity_11 : decode cJ21_ensureCapacity 11 = .ok (.getfield 11, 3) := dk_180 0 11 (dk_at dksJ21_ensureCapacity_0 11 rfl rfl)
theorem dJ21_ensureCapacity_14 : decode cJ21_ensureCapacity 14 = .ok (.arraylength, 1) := dk_190 (dk_at dksJ21_ensureCapacity_0 14 rfl rfl)
theorem dJ21_ensureCapacity_15 : decode cJ21_ensureCapacity 15 = .ok (.imul, 1) := dk_104 (dk_at dksJ21_ensureCapacity_0 15 rfl rfl)
theorem dJ21_ensureCapacity_16 : decode cJ21_ensureCapacity 16 = .ok (.iload_n 1, 1) := dk_27 (dk_at dksJ21_ensureCapacity_0 16 rfl rfl)
theorem dJ21_ensureCapacity_17 : decode cJ21_ensureCapacity 17 = .ok (.invokestatic 133, 3) := dk_184 0 133 (dk_at dksJ21_ensureCapacity_0 17 rfl rfl)
theorem dJ21_ensureCapacity_20 : decode cJ21_ensureCapacity 20 = .ok (.istore_n 2, 1) := dk_61 (dk_at dksJ21_ensureCapacity_0 20 rfl rfl)
theorem dJ21_ensureCapacity_21 : decode cJ21_ensureCapacity 21 = .ok (.aload_n 0, 1) := dk_42 (dk_at dksJ21_ensureCapacity_0 21 rfl rfl)
theorem dJ21_ensureCapacity_22 : decode cJ21_ensureCapacity 22 = .ok (.aload_n 0, 1) := dk_42 (dk_at dksJ21_ensureCapacity_0 22 rfl rfl)
theorem dJ21_ensureCapacity_23 : decode cJ21_ensureCapacity 23 = .ok (.getfield 11, 3) := dk_180 0 11 (dk_at dksJ21_ensureCapacity_1 0 rfl rfl)
theorem dJ21_ensureCapacity_26 : decode cJ21_ensureCapacity 26 = .ok (.iload_n 2, 1) := dk_28 (dk_at dksJ21_ensureCapacity_1 3 rfl rfl)
theorem dJ21_ensureCapacity_27 : decode cJ21_ensureCapacity 27 = .ok (.invokestatic 59, 3) := dk_184 0 59 (dk_at dksJ21_ensureCapacity_1 4 rfl rfl)
theorem dJ21_ensureCapacity_30 : decode cJ21_ensureCapacity 30 = .ok (.putfield 11, 3) := dk_181 0 11 (dk_at dksJ21_ensureCapacity_1 7 rfl rfl)
theorem dJ21_ensureCapacity_33 : decode cJ21_ensureCapacity 33 = .ok (.aload_n 0, 1) := dk_42 (dk_at dksJ21_ensureCapacity_1 10 rfl rfl)
theorem dJ21_ensureCapacity_34 : decode cJ21_ensureCapacity 34 = .ok (.iconst 0, 1) := dk_3 (dk_at dksJ21_ensureCapacity_1 11 rfl rfl)
theorem dJ21_ensureCapacity_35 : decode cJ21_ensureCapacity 35 = .ok (.putfield 24, 3) := dk_181 0 24 (dk_at dksJ21_ensureCapacity_1 12 rfl rfl)
theorem dJ21_ensureCapacity_38 : decode cJ21_ensureCapacity 38 = .ok (.return_, 1) := dk_177 (dk_at dksJ21_ensureCapacity_1 15 rfl rfl)
abbrev cJ21_set_2 : ByteArray := prog_54_method_21_code
def yJ21_set_2 : MethodName := ⟨RJ21, "set", "(II)V"⟩
def dkwJ21_set_2_5 : List UInt8 := [42, 182, 0, 56, 177]
abbrev dktJ21_set_2_5 : List UInt8 := dkwJ21_set_2_5 ++ []
def dkwJ21_set_2_4 : List UInt8 := [21, 9, 20, 0, 165, 80, 132, 9, 1, 167, 255, 236, 42, 180, 0, 11, 21, 4, 92, 47, 22, 7, 129, 80]
abbrev dktJ21_set_2_4 : List UInt8 := dkwJ21_set_2_4 ++ dktJ21_set_2_5
def dkwJ21_set_2_3 : List UInt8 := [29, 92, 47, 22, 5, 129, 80, 29, 4, 96, 54, 9, 21, 9, 21, 4, 162, 0, 19, 42, 180, 0, 11]
abbrev dktJ21_set_2_3 : List UInt8 := dkwJ21_set_2_3 ++ dktJ21_set_2_4
def dkwJ21_set_2_2 : List UInt8 := [160, 0, 20, 42, 180, 0, 11, 29, 92, 47, 22, 5, 22, 7, 127, 129, 80, 167, 0, 54, 42, 180, 0, 11]
abbrev dktJ21_set_2_2 : List UInt8 := dkwJ21_set_2_2 ++ dktJ21_set_2_3
def dkwJ21_set_2_1 : List UInt8 := [42, 21, 4, 182, 0, 155, 20, 0, 165, 27, 121, 55, 5, 20, 0, 165, 28, 116, 125, 55, 7, 29, 21, 4]
abbrev dktJ21_set_2_1 : List UInt8 := dkwJ21_set_2_1 ++ dktJ21_set_2_2
def dkwJ21_set_2_0 : List UInt8 := [27, 28, 184, 0, 161, 27, 28, 160, 0, 4, 177, 27, 184, 0, 52, 62, 28, 4, 100, 184, 0, 52, 54, 4]
abbrev dktJ21_set_2_0 : List UInt8 := dkwJ21_set_2_0 ++ dktJ21_set_2_1
theorem dksJ21_set_2_0 : cJ21_set_2.data.toList.drop 0 = dktJ21_set_2_0 := by decide +kernel
theorem dksJ21_set_2_1 : cJ21_set_2.data.toList.drop 24 = dktJ21_set_2_1 := dk_seg dksJ21_set_2_0 24 rfl rfl
theorem dksJ21_set_2_2 : cJ21_set_2.data.toList.drop 48 = dktJ21_set_2_2 := dk_seg dksJ21_set_2_1 24 rfl rfl
theorem dksJ21_set_2_3 : cJ21_set_2.data.toList.drop 72 = dktJ21_set_2_3 := dk_seg dksJ21_set_2_2 24 rfl rfl
theorem dksJ21_set_2_4 : cJ21_set_2.data.toList.drop 95 = dktJ21_set_2_4 := dk_seg dksJ21_set_2_3 23 rfl rfl
theorem dksJ21_set_2_5 : cJ21_set_2.data.toList.drop 119 = dktJ21_set_2_5 := dk_seg dksJ21_set_2_4 24 rfl rfl
theorem dJ21_set_2_0 : decode cJ21_set_2 0 = .ok (.iload_n 1, 1) := dk_27 (dk_at dksJ21_set_2_0 0 rfl rfl)
theorem dJ21_set_2_1 : decode cJ21_set_2 1 = .ok (.iload_n 2, 1) := dk_28 (dk_at dksJ21_set_2_0 1 rfl rfl)
theorem dJ21_set_2_2 : decode cJ21_set_2 2 = .ok (.invokestatic 161, 3) := dk_184 0 161 (dk_at dksJ21_set_2_0 2 rfl rfl)
theorem dJ21_set_2_5 : decode cJ21_set_2 5 = .ok (.iload_n 1, 1) := dk_27 (dk_at dksJ21_set_2_0 5 rfl rfl)
theorem dJ21_set_2_6 : decode cJ21_set_2 6 = .ok (.iload_n 2, 1) := dk_28 (dk_at dksJ21_set_2_0 6 rfl rfl)
theorem dJ21_set_2_7 : decode cJ21_set_2 7 = .ok (.if_icmp .ne 4, 3) := dk_160 0 4 (dk_at dksJ21_set_2_0 7 rfl rfl)
theorem dJ21_set_2_10 : decode cJ21_set_2 10 = .ok (.return_, 1) := dk_177 (dk_at dksJ21_set_2_0 10 rfl rfl)
theorem dJ21_set_2_11 : decode cJ21_set_2 11 = .ok (.iload_n 1, 1) := dk_27 (dk_at dksJ21_set_2_0 11 rfl rfl)
theorem dJ21_set_2_12 : decode cJ21_set_2 12 = .ok (.invokestatic 52, 3) := dk_184 0 52 (dk_at dksJ21_set_2_0 12 rfl rfl)
theorem dJ21_set_2_15 : decode cJ21_set_2 15 = .ok (.istore_n 3, 1) := dk_62 (dk_at dksJ21_set_2_0 15 rfl rfl)
theorem dJ21_set_2_16 : decode cJ21_set_2 16 = .ok (.iload_n 2, 1) := dk_28 (dk_at dksJ21_set_2_0 16 rfl rfl)
theorem dJ21_set_2_17 : decode cJ21_set_2 17 = .ok (.iconst 1, 1) := dk_4 (dk_at dksJ21_set_2_0 17 rfl rfl)
theorem dJ21_set_2_18 : decode cJ21_set_2 18 = .ok (.isub, 1) := dk_100 (dk_at dksJ21_set_2_0 18 rfl rfl)
theorem dJ21_set_2_19 : decode cJ21_set_2 19 = .ok (.invokestatic 52, 3) := dk_184 0 52 (dk_at dksJ21_set_2_0 19 rfl rfl)
theorem dJ21_set_2_22 : decode cJ21_set_2 22 = .ok (.istore 4, 2) := dk_54 4 (dk_at dksJ21_set_2_0 22 rfl rfl)
theorem dJ21_set_2_24 : decode cJ21_set_2 24 = .ok (.aload_n 0, 1) := dk_42 (dk_at dksJ21_set_2_1 0 rfl rfl)
theorem dJ21_set_2_25 : decode cJ21_set_2 25 = .ok (.iload 4, 2) := dk_21 4 (dk_at dksJ21_set_2_1 1 rfl rfl)
theorem dJ21_set_2_27 : decode cJ21_set_2 27 = .ok (.invokevirtual 155, 3) := dk_182 0 155 (dk_at dksJ21_set_2_1 3 rfl rfl)
theorem dJ21_set_2_30 : decode cJ21_set_2 30 = .ok (.ldc2_w 165, 3) := dk_20 0 165 (dk_at dksJ21_set_2_1 6 rfl rfl)
theorem dJ21_set_2_33 : decode cJ21_set_2 33 = .ok (.iload_n 1, 1) := dk_27 (dk_at dksJ21_set_2_1 9 rfl rfl)
theorem dJ21_set_2_34 : decode cJ21_set_2 34 = .ok (.lshl, 1) := dk_121 (dk_at dksJ21_set_2_1 10 rfl rfl)
theorem dJ21_set_2_35 : decode cJ21_set_2 35 = .ok (.lstore 5, 2) := dk_55 5 (dk_at dksJ21_set_2_1 11 rfl rfl)
theorem dJ21_set_2_37 : decode cJ21_set_2 37 = .ok (.ldc2_w 165, 3) := dk_20 0 165 (dk_at dksJ21_set_2_1 13 rfl rfl)
theorem dJ21_set_2_40 : decode cJ21_set_2 40 = .ok (.iload_n 2, 1) := dk_28 (dk_at dksJ21_set_2_1 16 rfl rfl)
theorem dJ21_set_2_41 : decode cJ21_set_2 41 = .ok (.ineg, 1) := dk_116 (dk_at dksJ21_set_2_1 17 rfl rfl)
theorem dJ21_set_2_42 : decode cJ21_set_2 42 = .ok (.lushr, 1) := dk_125 (dk_at dksJ21_set_2_1 18 rfl rfl)
theorem dJ21_set_2_43 : decode cJ21_set_2 43 = .ok (.lstore 7, 2) := dk_55 7 (dk_at dksJ21_set_2_1 19 rfl rfl)
theorem dJ21_set_2_45 : decode cJ21_set_2 45 = .ok (.iload_n 3, 1) := dk_29 (dk_at dksJ21_set_2_1 21 rfl rfl)
theorem dJ21_set_2_46 : decode cJ21_set_2 46 = .ok (.iload 4, 2) := dk_21 4 (dk_at dksJ21_set_2_1 22 rfl rfl)
theorem dJ21_set_2_48 : decode cJ21_set_2 48 = .ok (.if_icmp .ne 20, 3) := dk_160 0 20 (dk_at dksJ21_set_2_2 0 rfl rfl)
theorem dJ21_set_2_51 : decode cJ21_set_2 51 = .ok (.aload_n 0, 1) := dk_42 (dk_at dksJ21_set_2_2 3 rfl rfl)
theorem dJ21_set_2_52 : decode cJ21_set_2 52 = .ok (.getfield 11, 3) := dk_180 0 11 (dk_at dksJ21_set_2_2 4 rfl rfl)
theorem dJ21_set_2_55 : decode cJ21_set_2 55 = .ok (.iload_n 3, 1) := dk_29 (dk_at dksJ21_set_2_2 7 rfl rfl)
theorem dJ21_set_2_56 : decode cJ21_set_2 56 = .ok (.dup2, 1) := dk_92 (dk_at dksJ21_set_2_2 8 rfl rfl)
theorem dJ21_set_2_57 : decode cJ21_set_2 57 = .ok (.laload, 1) := dk_47 (dk_at dksJ21_set_2_2 9 rfl rfl)
theorem dJ21_set_2_58 : decode cJ21_set_2 58 = .ok (.lload 5, 2) := dk_22 5 (dk_at dksJ21_set_2_2 10 rfl rfl)
theorem dJ21_set_2_60 : decode cJ21_set_2 60 = .ok (.lload 7, 2) := dk_22 7 (dk_at dksJ21_set_2_2 12 rfl rfl)
theorem dJ21_set_2_62 : decode cJ21_set_2 62 = .ok (.land, 1) := dk_127 (dk_at dksJ21_set_2_2 14 rfl rfl)
theorem dJ21_set_2_63 : decode cJ21_set_2 63 = .ok (.lor, 1) := dk_129 (dk_at dksJ21_set_2_2 15 rfl rfl)
theorem dJ21_set_2_64 : decode cJ21_set_2 64 = .ok (.lastore, 1) := dk_80 (dk_at dksJ21_set_2_2 16 rfl rfl)
theorem dJ21_set_2_65 : decode cJ21_set_2 65 = .ok (.goto 54, 3) := dk_167 0 54 (dk_at dksJ21_set_2_2 17 rfl rfl)
theorem dJ21_set_2_68 : decode cJ21_set_2 68 = .ok (.aload_n 0, 1) := dk_42 (dk_at dksJ21_set_2_2 20 rfl rfl)
theorem dJ21_set_2_69 : decode cJ21_set_2 69 = .ok (.getfield 11, 3) := dk_180 0 11 (dk_at dksJ21_set_2_2 21 rfl rfl)
theorem dJ21_set_2_72 : decode cJ21_set_2 72 = .ok (.iload_n 3, 1) := dk_29 (dk_at dksJ21_set_2_3 0 rfl rfl)
theorem dJ21_set_2_73 : decode cJ21_set_2 73 = .ok (.dup2, 1) := dk_92 (dk_at dksJ21_set_2_3 1 rfl rfl)
theorem dJ21_set_2_74 : decode cJ21_set_2 74 = .ok (.laload, 1) := dk_47 (dk_at dksJ21_set_2_3 2 rfl rfl)
theorem dJ21_set_2_75 : decode cJ21_set_2 75 = .ok (.lload 5, 2) := dk_22 5 (dk_at dksJ21_set_2_3 3 rfl rfl)
theorem dJ21_set_2_77 : decode cJ21_set_2 77 = .ok (.lor, 1) := dk_129 (dk_at dksJ21_set_2_3 5 rfl rfl)
theorem dJ21_set_2_78 : decode cJ21_set_2 78 = .ok (.lastore, 1) := dk_80 (dk_at dksJ21_set_2_3 6 rfl rfl)
theorem dJ21_set_2_79 : decode cJ21_set_2 79 = .ok (.iload_n 3, 1) := dk_29 (dk_at dksJ21_set_2_3 7 rfl rfl)
theorem dJ21_set_2_80 : decode cJ21_set_2 80 = .ok (.iconst 1, 1) := dk_4 (dk_at dksJ21_set_2_3 8 rfl rfl)
theorem dJ21_set_2_81 : decode cJ21_set_2 81 = .ok (.iadd, 1) := dk_96 (dk_at dksJ21_set_2_3 9 rfl rfl)
theorem dJ21_set_2_82 : decode cJ21_set_2 82 = .ok (.istore 9, 2) := dk_54 9 (dk_at dksJ21_set_2_3 10 rfl rfl)
theorem dJ21_set_2_84 : decode cJ21_set_2 84 = .ok (.iload 9, 2) := dk_21 9 (dk_at dksJ21_set_2_3 12 rfl rfl)
theorem dJ21_set_2_86 : decode cJ21_set_2 86 = .ok (.iload 4, 2) := dk_21 4 (dk_at dksJ21_set_2_3 14 rfl rfl)
theorem dJ21_set_2_88 : decode cJ21_set_2 88 = .ok (.if_icmp .ge 19, 3) := dk_162 0 19 (dk_at dksJ21_set_2_3 16 rfl rfl)
theorem dJ21_set_2_91 : decode cJ21_set_2 91 = .ok (.aload_n 0, 1) := dk_42 (dk_at dksJ21_set_2_3 19 rfl rfl)
theorem dJ21_set_2_92 : decode cJ21_set_2 92 = .ok (.getfield 11, 3) := dk_180 0 11 (dk_at dksJ21_set_2_3 20 rfl rfl)
theorem dJ21_set_2_95 : decode cJ21_set_2 95 = .ok (.iload 9, 2) := dk_21 9 (dk_at dksJ21_set_2_4 0 rfl rfl)
theorem dJ21_set_2_97 : decode cJ21_set_2 97 = .ok (.ldc2_w 165, 3) := dk_20 0 165 (dk_at dksJ21_set_2_4 2 rfl rfl)
theorem dJ21_set_2_100 : decode cJ21_set_2 100 = .ok (.lastore, 1) := dk_80 (dk_at dksJ21_set_2_4 5 rfl rfl)
theorem dJ21_set_2_101 : decode cJ21_set_2 101 = .ok (.iinc 9 1, 3) := dk_132 9 1 (dk_at dksJ21_set_2_4 6 rfl rfl)
theorem dJ21_set_2_104 : decode cJ21_set_2 104 = .ok (.goto (-20), 3) := dk_167 255 236 (dk_at dksJ21_set_2_4 9 rfl rfl)
theorem dJ21_set_2_107 : decode cJ21_set_2 107 = .ok (.aload_n 0, 1) := dk_42 (dk_at dksJ21_set_2_4 12 rfl rfl)
theorem dJ21_set_2_108 : decode cJ21_set_2 108 = .ok (.getfield 11, 3) := dk_180 0 11 (dk_at dksJ21_set_2_4 13 rfl rfl)
theorem dJ21_set_2_111 : decode cJ21_set_2 111 = .ok (.iload 4, 2) := dk_21 4 (dk_at dksJ21_set_2_4 16 rfl rfl)
theorem dJ21_set_2_113 : decode cJ21_set_2 113 = .ok (.dup2, 1) := dk_92 (dk_at dksJ21_set_2_4 18 rfl rfl)
theorem dJ21_set_2_114 : decode cJ21_set_2 114 = .ok (.laload, 1) := dk_47 (dk_at dksJ21_set_2_4 19 rfl rfl)
theorem dJ21_set_2_115 : decode cJ21_set_2 115 = .ok (.lload 7, 2) := dk_22 7 (dk_at dksJ21_set_2_4 20 rfl rfl)
theorem dJ21_set_2_117 : decode cJ21_set_2 117 = .ok (.lor, 1) := dk_129 (dk_at dksJ21_set_2_4 22 rfl rfl)
theorem dJ21_set_2_118 : decode cJ21_set_2 118 = .ok (.lastore, 1) := dk_80 (dk_at dksJ21_set_2_4 23 rfl rfl)
theorem dJ21_set_2_119 : decode cJ21_set_2 119 = .ok (.aload_n 0, 1) := dk_42 (dk_at dksJ21_set_2_5 0 rfl rfl)
theorem dJ21_set_2_120 : decode cJ21_set_2 120 = .ok (.invokevirtual 56, 3) := dk_182 0 56 (dk_at dksJ21_set_2_5 1 rfl rfl)
theorem dJ21_set_2_123 : decode cJ21_set_2 123 = .ok (.return_, 1) := dk_177 (dk_at dksJ21_set_2_5 4 rfl rfl)
abbrev cJ21_checkRange : ByteArray := prog_54_method_16_code
def yJ21_checkRange : MethodName := ⟨RJ21, "checkRange", "(II)V"⟩
def dkwJ21_checkRange_4 : List UInt8 := [182, 0, 42, 182, 0, 45, 183, 0, 146, 191, 177]
abbrev dktJ21_checkRange_4 : List UInt8 := dkwJ21_checkRange_4 ++ []
def dkwJ21_checkRange_3 : List UInt8 := [187, 0, 33, 89, 183, 0, 35, 18, 149, 182, 0, 38, 26, 182, 0, 42, 18, 151, 182, 0, 38, 27]
abbrev dktJ21_checkRange_3 : List UInt8 := dkwJ21_checkRange_3 ++ dktJ21_checkRange_4
def dkwJ21_checkRange_2 : List UInt8 := [182, 0, 38, 27, 182, 0, 42, 182, 0, 45, 183, 0, 146, 191, 26, 27, 164, 0, 39, 187, 0, 142, 89]
abbrev dktJ21_checkRange_2 : List UInt8 := dkwJ21_checkRange_2 ++ dktJ21_checkRange_3
def dkwJ21_checkRange_1 : List UInt8 := [182, 0, 45, 183, 0, 146, 191, 27, 156, 0, 30, 187, 0, 142, 89, 187, 0, 33, 89, 183, 0, 35, 18, 147]
abbrev dktJ21_checkRange_1 : List UInt8 := dkwJ21_checkRange_1 ++ dktJ21_checkRange_2
def dkwJ21_checkRange_0 : List UInt8 := [26, 156, 0, 30, 187, 0, 142, 89, 187, 0, 33, 89, 183, 0, 35, 18, 144, 182, 0, 38, 26, 182, 0, 42]
abbrev dktJ21_checkRange_0 : List UInt8 := dkwJ21_checkRange_0 ++ dktJ21_checkRange_1
theorem dksJ21_checkRange_0 : cJ21_checkRange.data.toList.drop 0 = dktJ21_checkRange_0 := by decide +kernel
theorem dksJ21_checkRange_1 : cJ21_checkRange.data.toList.drop 24 = dktJ21_checkRange_1 := dk_seg dksJ21_checkRange_0 24 rfl rfl
theorem dksJ21_checkRange_2 : cJ21_checkRange.data.toList.drop 48 = dktJ21_checkRange_2 := dk_seg dksJ21_checkRange_1 24 rfl rfl
theorem dksJ21_checkRange_3 : cJ21_checkRange.data.toList.drop 71 = dktJ21_checkRange_3 := dk_seg dksJ21_checkRange_2 23 rfl rfl
theorem dksJ21_checkRange_4 : cJ21_checkRange.data.toList.drop 93 = dktJ21_checkRange_4 := dk_seg dksJ21_checkRange_3 22 rfl rfl
theorem dJ21_checkRange_0 : decode cJ21_checkRange 0 = .ok (.iload_n 0, 1) := dk_26 (dk_at dksJ21_checkRange_0 0 rfl rfl)
theorem dJ21_checkRange_1 : decode cJ21_checkRange 1 = .ok (.ifCond .ge 30, 3) := dk_156 0 30 (dk_at dksJ21_checkRange_0 1 rfl rfl)
theorem dJ21_checkRange_4 : decode cJ21_checkRange 4 = .ok (.new 142, 3) := dk_187 0 142 (dk_at dksJ21_checkRange_0 4 rfl rfl)
theorem dJ21_checkRange_7 : decode cJ21_checkRange 7 = .ok (.dup, 1) := dk_89 (dk_at dksJ21_checkRange_0 7 rfl rfl)
theorem dJ21_checkRange_8 : decode cJ21_checkRange 8 = .ok (.new 33, 3) := dk_187 0 33 (dk_at dksJ21_checkRange_0 8 rfl rfl)
theorem dJ21_checkRange_11 : decode cJ21_checkRange 11 = .ok (.dup, 1) := dk_89 (dk_at dksJ21_checkRange_0 11 rfl rfl)
theorem dJ21_checkRange_12 : decode cJ21_checkRange 12 = .ok (.invokespecial 35, 3) := dk_183 0 35 (dk_at dksJ21_checkRange_0 12 rfl rfl)
theorem dJ21_checkRange_15 : decode cJ21_checkRange 15 = .ok (.ldc 144, 2) := dk_18 144 (dk_at dksJ21_checkRange_0 15 rfl rfl)
theorem dJ21_checkRange_17 : decode cJ21_checkRange 17 = .ok (.invokevirtual 38, 3) := dk_182 0 38 (dk_at dksJ21_checkRange_0 17 rfl rfl)
theorem dJ21_checkRange_20 : decode cJ21_checkRange 20 = .ok (.iload_n 0, 1) := dk_26 (dk_at dksJ21_checkRange_0 20 rfl rfl)
theorem dJ21_checkRange_21 : decode cJ21_checkRange 21 = .ok (.invokevirtual 42, 3) := dk_182 0 42 (dk_at dksJ21_checkRange_0 21 rfl rfl)
theorem dJ21_checkRange_24 : decode cJ21_checkRange 24 = .ok (.invokevirtual 45, 3) := dk_182 0 45 (dk_at dksJ21_checkRange_1 0 rfl rfl)
theorem dJ21_checkRange_27 : decode cJ21_checkRange 27 = .ok (.invokespecial 146, 3) := dk_183 0 146 (dk_at dksJ21_checkRange_1 3 rfl rfl)
theorem dJ21_checkRange_30 : decode cJ21_checkRange 30 = .ok (.athrow, 1) := dk_191 (dk_at dksJ21_checkRange_1 6 rfl rfl)
theorem dJ21_checkRange_31 : decode cJ21_checkRange 31 = .ok (.iload_n 1, 1) := dk_27 (dk_at dksJ21_checkRange_1 7 rfl rfl)
theorem dJ21_checkRange_32 : decode cJ21_checkRange 32 = .ok (.ifCond .ge 30, 3) := dk_156 0 30 (dk_at dksJ21_checkRange_1 8 rfl rfl)
theorem dJ21_checkRange_35 : decode cJ21_checkRange 35 = .ok (.new 142, 3) := dk_187 0 142 (dk_at dksJ21_checkRange_1 11 rfl rfl)
theorem dJ21_checkRange_38 : decode cJ21_checkRange 38 = .ok (.dup, 1) := dk_89 (dk_at dksJ21_checkRange_1 14 rfl rfl)
theorem dJ21_checkRange_39 : decode cJ21_checkRange 39 = .ok (.new 33, 3) := dk_187 0 33 (dk_at dksJ21_checkRange_1 15 rfl rfl)
theorem dJ21_checkRange_42 : decode cJ21_checkRange 42 = .ok (.dup, 1) := dk_89 (dk_at dksJ21_checkRange_1 18 rfl rfl)
theorem dJ21_checkRange_43 : decode cJ21_checkRange 43 = .ok (.invokespecial 35, 3) := dk_183 0 35 (dk_at dksJ21_checkRange_1 19 rfl rfl)
theorem dJ21_checkRange_46 : decode cJ21_checkRange 46 = .ok (.ldc 147, 2) := dk_18 147 (dk_at dksJ21_checkRange_1 22 rfl rfl)
theorem dJ21_checkRange_48 : decode cJ21_checkRange 48 = .ok (.invokevirtual 38, 3) := dk_182 0 38 (dk_at dksJ21_checkRange_2 0 rfl rfl)
theorem dJ21_checkRange_51 : decode cJ21_checkRange 51 = .ok (.iload_n 1, 1) := dk_27 (dk_at dksJ21_checkRange_2 3 rfl rfl)
theorem dJ21_checkRange_52 : decode cJ21_checkRange 52 = .ok (.invokevirtual 42, 3) := dk_182 0 42 (dk_at dksJ21_checkRange_2 4 rfl rfl)
theorem dJ21_checkRange_55 : decode cJ21_checkRange 55 = .ok (.invokevirtual 45, 3) := dk_182 0 45 (dk_at dksJ21_checkRange_2 7 rfl rfl)
theorem dJ21_checkRange_58 : decode cJ21_checkRange 58 = .ok (.invokespecial 146, 3) := dk_183 0 146 (dk_at dksJ21_checkRange_2 10 rfl rfl)
theorem dJ21_checkRange_61 : decode cJ21_checkRange 61 = .ok (.athrow, 1) := dk_191 (dk_at dksJ21_checkRange_2 13 rfl rfl)
theorem dJ21_checkRange_62 : decode cJ21_checkRange 62 = .ok (.iload_n 0, 1) := dk_26 (dk_at dksJ21_checkRange_2 14 rfl rfl)
theorem dJ21_checkRange_63 : decode cJ21_checkRange 63 = .ok (.iload_n 1, 1) := dk_27 (dk_at dksJ21_checkRange_2 15 rfl rfl)
theorem dJ21_checkRange_64 : decode cJ21_checkRange 64 = .ok (.if_icmp .le 39, 3) := dk_164 0 39 (dk_at dksJ21_checkRange_2 16 rfl rfl)
theorem dJ21_checkRange_67 : decode cJ21_checkRange 67 = .ok (.new 142, 3) := dk_187 0 142 (dk_at dksJ21_checkRange_2 19 rfl rfl)
theorem dJ21_checkRange_70 : decode cJ21_checkRange 70 = .ok (.dup, 1) := dk_89 (dk_at dksJ21_checkRange_2 22 rfl rfl)
theorem dJ21_checkRange_71 : decode cJ21_checkRange 71 = .ok (.new 33, 3) := dk_187 0 33 (dk_at dksJ21_checkRange_3 0 rfl rfl)
theorem dJ21_checkRange_74 : decode cJ21_checkRange 74 = .ok (.dup, 1) := dk_89 (dk_at dksJ21_checkRange_3 3 rfl rfl)
theorem dJ21_checkRange_75 : decode cJ21_checkRange 75 = .ok (.invokespecial 35, 3) := dk_183 0 35 (dk_at dksJ21_checkRange_3 4 rfl rfl)
theorem dJ21_checkRange_78 : decode cJ21_checkRange 78 = .ok (.ldc 149, 2) := dk_18 149 (dk_at dksJ21_checkRange_3 7 rfl rfl)
theorem dJ21_checkRange_80 : decode cJ21_checkRange 80 = .ok (.invokevirtual 38, 3) := dk_182 0 38 (dk_at dksJ21_checkRange_3 9 rfl rfl)
theorem dJ21_checkRange_83 : decode cJ21_checkRange 83 = .ok (.iload_n 0, 1) := dk_26 (dk_at dksJ21_checkRange_3 12 rfl rfl)
theorem dJ21_checkRange_84 : decode cJ21_checkRange 84 = .ok (.invokevirtual 42, 3) := dk_182 0 42 (dk_at dksJ21_checkRange_3 13 rfl rfl)
theorem dJ21_checkRange_87 : decode cJ21_checkRange 87 = .ok (.ldc 151, 2) := dk_18 151 (dk_at dksJ21_checkRange_3 16 rfl rfl)
theorem dJ21_checkRange_89 : decode cJ21_checkRange 89 = .ok (.invokevirtual 38, 3) := dk_182 0 38 (dk_at dksJ21_checkRange_3 18 rfl rfl)
theorem dJ21_checkRange_92 : decode cJ21_checkRange 92 = .ok (.iload_n 1, 1) := dk_27 (dk_at dksJ21_checkRange_3 21 rfl rfl)
theorem dJ21_checkRange_93 : decode cJ21_checkRange 93 = .ok (.invokevirtual 42, 3) := dk_182 0 42 (dk_at dksJ21_checkRange_4 0 rfl rfl)
theorem dJ21_checkRange_96 : decode cJ21_checkRange 96 = .ok (.invokevirtual 45, 3) := dk_182 0 45 (dk_at dksJ21_checkRange_4 3 rfl rfl)
theorem dJ21_checkRange_99 : decode cJ21_checkRange 99 = .ok (.invokespecial 146, 3) := dk_183 0 146 (dk_at dksJ21_checkRange_4 6 rfl rfl)
theorem dJ21_checkRange_102 : decode cJ21_checkRange 102 = .ok (.athrow, 1) := dk_191 (dk_at dksJ21_checkRange_4 9 rfl rfl)
theorem dJ21_checkRange_103 : decode cJ21_checkRange 103 = .ok (.return_, 1) := dk_177 (dk_at dksJ21_checkRange_4 10 rfl rfl)
abbrev cJ21_andNot : ByteArray := prog_54_method_39_code
def yJ21_andNot : MethodName := ⟨RJ21, "andNot", "(Ljava/util/BitSet;)V"⟩
def dkwJ21_andNot_2 : List UInt8 := [182, 0, 56, 177]
abbrev dktJ21_andNot_2 : List UInt8 := dkwJ21_andNot_2 ++ []
def dkwJ21_andNot_1 : List UInt8 := [47, 43, 180, 0, 11, 28, 47, 20, 0, 165, 131, 127, 80, 132, 2, 255, 167, 255, 230, 42, 182, 0, 158, 42]
abbrev dktJ21_andNot_1 : List UInt8 := dkwJ21_andNot_1 ++ dktJ21_andNot_2
def dkwJ21_andNot_0 : List UInt8 := [42, 180, 0, 7, 43, 180, 0, 7, 184, 0, 193, 4, 100, 61, 28, 155, 0, 28, 42, 180, 0, 11, 28, 92]
abbrev dktJ21_andNot_0 : List UInt8 := dkwJ21_andNot_0 ++ dktJ21_andNot_1
theorem dksJ21_andNot_0 : cJ21_andNot.data.toList.drop 0 = dktJ21_andNot_0 := by decide +kernel
theorem dksJ21_andNot_1 : cJ21_andNot.data.toList.drop 24 = dktJ21_andNot_1 := dk_seg dksJ21_andNot_0 24 rfl rfl
theorem dksJ21_andNot_2 : cJ21_andNot.data.toList.drop 48 = dktJ21_andNot_2 := dk_seg dksJ21_andNot_1 24 rfl rfl
theorem dJ21_andNot_0 : decode cJ21_andNot 0 = .ok (.aload_n 0, 1) := dk_42 (dk_at dksJ21_andNot_0 0 rfl rfl)
theorem dJ21_andNot_1 : decode cJ21_andNot 1 = .ok (.getfield 7, 3) := dk_180 0 7 (dk_at dksJ21_andNot_0 1 rfl rfl)
theorem dJ21_andNot_4 : decode cJ21_andNot 4 = .ok (.aload_n 1, 1) := dk_43 (dk_at dksJ21_andNot_0 4 rfl rfl)
theorem dJ21_andNot_5 : decode cJ21_andNot 5 = .ok (.getfield 7, 3) := dk_180 0 7 (dk_at dksJ21_andNot_0 5 rfl rfl)
theorem dJ21_andNot_8 : decode cJ21_andNot 8 = .ok (.invokestatic 193, 3) := dk_184 0 193 (dk_at dksJ21_andNot_0 8 rfl rfl)
theorem dJ21_andNot_11 : decode cJ21_andNot 11 = .ok (.iconst 1, 1) := dk_4 (dk_at dksJ21_andNot_0 11 rfl rfl)
theorem dJ21_andNot_12 : decode cJ21_andNot 12 = .ok (.isub, 1) := dk_100 (dk_at dksJ21_andNot_0 12 rfl rfl)
theorem dJ21_andNot_13 : decode cJ21_andNot 13 = .ok (.istore_n 2, 1) := dk_61 (dk_at dksJ21_andNot_0 13 rfl rfl)
theorem dJ21_andNot_14 : decode cJ21_andNot 14 = .ok (.iload_n 2, 1) := dk_28 (dk_at dksJ21_andNot_0 14 rfl rfl)
theorem dJ21_andNot_15 : decode cJ21_andNot 15 = .ok (.ifCond .lt 28, 3) := dk_155 0 28 (dk_at dksJ21_andNot_0 15 rfl rfl)
theorem dJ21_andNot_18 : decode cJ21_andNot 18 = .ok (.aload_n 0, 1) := dk_42 (dk_at dksJ21_andNot_0 18 rfl rfl)
theorem dJ21_andNot_19 : decode cJ21_andNot 19 = .ok (.getfield 11, 3) := dk_180 0 11 (dk_at dksJ21_andNot_0 19 rfl rfl)
theorem dJ21_andNot_22 : decode cJ21_andNot 22 = .ok (.iload_n 2, 1) := dk_28 (dk_at dksJ21_andNot_0 22 rfl rfl)
theorem dJ21_andNot_23 : decode cJ21_andNot 23 = .ok (.dup2, 1) := dk_92 (dk_at dksJ21_andNot_0 23 rfl rfl)
theorem dJ21_andNot_24 : decode cJ21_andNot 24 = .ok (.laload, 1) := dk_47 (dk_at dksJ21_andNot_1 0 rfl rfl)
theorem dJ21_andNot_25 : decode cJ21_andNot 25 = .ok (.aload_n 1, 1) := dk_43 (dk_at dksJ21_andNot_1 1 rfl rfl)
theorem dJ21_andNot_26 : decode cJ21_andNot 26 = .ok (.getfield 11, 3) := dk_180 0 11 (dk_at dksJ21_andNot_1 2 rfl rfl)
theorem dJ21_andNot_29 : decode cJ21_andNot 29 = .ok (.iload_n 2, 1) := dk_28 (dk_at dksJ21_andNot_1 5 rfl rfl)
theorem dJ21_andNot_30 : decode cJ21_andNot 30 = .ok (.laload, 1) := dk_47 (dk_at dksJ21_andNot_1 6 rfl rfl)
theorem dJ21_andNot_31 : decode cJ21_andNot 31 = .ok (.ldc2_w 165, 3) := dk_20 0 165 (dk_at dksJ21_andNot_1 7 rfl rfl)
theorem dJ21_andNot_34 : decode cJ21_andNot 34 = .ok (.lxor, 1) := dk_131 (dk_at dksJ21_andNot_1 10 rfl rfl)
theorem dJ21_andNot_35 : decode cJ21_andNot 35 = .ok (.land, 1) := dk_127 (dk_at dksJ21_andNot_1 11 rfl rfl)
theorem dJ21_andNot_36 : decode cJ21_andNot 36 = .ok (.lastore, 1) := dk_80 (dk_at dksJ21_andNot_1 12 rfl rfl)
theorem dJ21_andNot_37 : decode cJ21_andNot 37 = .ok (.iinc 2 (-1), 3) := dk_132 2 255 (dk_at dksJ21_andNot_1 13 rfl rfl)
theorem dJ21_andNot_40 : decode cJ21_andNot 40 = .ok (.goto (-26), 3) := dk_167 255 230 (dk_at dksJ21_andNot_1 16 rfl rfl)
theorem dJ21_andNot_43 : decode cJ21_andNot 43 = .ok (.aload_n 0, 1) := dk_42 (dk_at dksJ21_andNot_1 19 rfl rfl)
theorem dJ21_andNot_44 : decode cJ21_andNot 44 = .ok (.invokevirtual 158, 3) := dk_182 0 158 (dk_at dksJ21_andNot_1 20 rfl rfl)
theorem dJ21_andNot_47 : decode cJ21_andNot 47 = .ok (.aload_n 0, 1) := dk_42 (dk_at dksJ21_andNot_1 23 rfl rfl)
theorem dJ21_andNot_48 : decode cJ21_andNot 48 = .ok (.invokevirtual 56, 3) := dk_182 0 56 (dk_at dksJ21_andNot_2 0 rfl rfl)
theorem dJ21_andNot_51 : decode cJ21_andNot 51 = .ok (.return_, 1) := dk_177 (dk_at dksJ21_andNot_2 3 rfl rfl)
abbrev cJ21_recalculateWordsInUse : ByteArray := prog_54_method_3_code
def yJ21_recalculateWordsInUse : MethodName := ⟨RJ21, "recalculateWordsInUse", "()V"⟩
def dkwJ21_recalculateWordsInUse_1 : List UInt8 := [167, 0, 9, 132, 1, 255, 167, 255, 235, 42, 27, 4, 96, 181, 0, 7, 177]
abbrev dktJ21_recalculateWordsInUse_1 : List UInt8 := dkwJ21_recalculateWordsInUse_1 ++ []
def dkwJ21_recalculateWordsInUse_0 : List UInt8 := [42, 180, 0, 7, 4, 100, 60, 27, 155, 0, 23, 42, 180, 0, 11, 27, 47, 9, 148, 153, 0, 6]
abbrev dktJ21_recalculateWordsInUse_0 : List UInt8 := dkwJ21_recalculateWordsInUse_0 ++ dktJ21_recalculateWordsInUse_1
theorem dksJ21_recalculateWordsInUse_0 : cJ21_recalculateWordsInUse.data.toList.drop 0 = dktJ21_recalculateWordsInUse_0 := by decide +kernel
theorem dksJ21_recalculateWordsInUse_1 : cJ21_recalculateWordsInUse.data.toList.drop 22 = dktJ21_recalculateWordsInUse_1 := dk_seg dksJ21_recalculateWordsInUse_0 22 rfl rfl
theorem dJ21_recalculateWordsInUse_0 : decode cJ21_recalculateWordsInUse 0 = .ok (.aload_n 0, 1) := dk_42 (dk_at dksJ21_recalculateWordsInUse_0 0 rfl rfl)
theorem dJ21_recalculateWordsInUse_1 : decode cJ21_recalculateWordsInUse 1 = .ok (.getfield 7, 3) := dk_180 0 7 (dk_at dksJ21_recalculateWordsInUse_0 1 rfl rfl)
theorem dJ21_recalculateWordsInUse_4 : decode cJ21_recalculateWordsInUse 4 = .ok (.iconst 1, 1) := dk_4 (dk_at dksJ21_recalculateWordsInUse_0 4 rfl rfl)
theorem dJ21_recalculateWordsInUse_5 : decode cJ21_recalculateWordsInUse 5 = .ok (.isub, 1) := dk_100 (dk_at dksJ21_recalculateWordsInUse_0 5 rfl rfl)
theorem dJ21_recalculateWordsInUse_6 : decode cJ21_recalculateWordsInUse 6 = .ok (.istore_n 1, 1) := dk_60 (dk_at dksJ21_recalculateWordsInUse_0 6 rfl rfl)
theorem dJ21_recalculateWordsInUse_7 : decode cJ21_recalculateWordsInUse 7 = .ok (.iload_n 1, 1) := dk_27 (dk_at dksJ21_recalculateWordsInUse_0 7 rfl rfl)
theorem dJ21_recalculateWordsInUse_8 : decode cJ21_recalculateWordsInUse 8 = .ok (.ifCond .lt 23, 3) := dk_155 0 23 (dk_at dksJ21_recalculateWordsInUse_0 8 rfl rfl)
theorem dJ21_recalculateWordsInUse_11 : decode cJ21_recalculateWordsInUse 11 = .ok (.aload_n 0, 1) := dk_42 (dk_at dksJ21_recalculateWordsInUse_0 11 rfl rfl)
theorem dJ21_recalculateWordsInUse_12 : decode cJ21_recalculateWordsInUse 12 = .ok (.getfield 11, 3) := dk_180 0 11 (dk_at dksJ21_recalculateWordsInUse_0 12 rfl rfl)
theorem dJ21_recalculateWordsInUse_15 : decode cJ21_recalculateWordsInUse 15 = .ok (.iload_n 1, 1) := dk_27 (dk_at dksJ21_recalculateWordsInUse_0 15 rfl rfl)
theorem dJ21_recalculateWordsInUse_16 : decode cJ21_recalculateWordsInUse 16 = .ok (.laload, 1) := dk_47 (dk_at dksJ21_recalculateWordsInUse_0 16 rfl rfl)
theorem dJ21_recalculateWordsInUse_17 : decode cJ21_recalculateWordsInUse 17 = .ok (.lconst 0, 1) := dk_9 (dk_at dksJ21_recalculateWordsInUse_0 17 rfl rfl)
theorem dJ21_recalculateWordsInUse_18 : decode cJ21_recalculateWordsInUse 18 = .ok (.lcmp, 1) := dk_148 (dk_at dksJ21_recalculateWordsInUse_0 18 rfl rfl)
theorem dJ21_recalculateWordsInUse_19 : decode cJ21_recalculateWordsInUse 19 = .ok (.ifCond .eq 6, 3) := dk_153 0 6 (dk_at dksJ21_recalculateWordsInUse_0 19 rfl rfl)
theorem dJ21_recalculateWordsInUse_22 : decode cJ21_recalculateWordsInUse 22 = .ok (.goto 9, 3) := dk_167 0 9 (dk_at dksJ21_recalculateWordsInUse_1 0 rfl rfl)
theorem dJ21_recalculateWordsInUse_25 : decode cJ21_recalculateWordsInUse 25 = .ok (.iinc 1 (-1), 3) := dk_132 1 255 (dk_at dksJ21_recalculateWordsInUse_1 3 rfl rfl)
theorem dJ21_recalculateWordsInUse_28 : decode cJ21_recalculateWordsInUse 28 = .ok (.goto (-21), 3) := dk_167 255 235 (dk_at dksJ21_recalculateWordsInUse_1 6 rfl rfl)
theorem dJ21_recalculateWordsInUse_31 : decode cJ21_recalculateWordsInUse 31 = .ok (.aload_n 0, 1) := dk_42 (dk_at dksJ21_recalculateWordsInUse_1 9 rfl rfl)
theorem dJ21_recalculateWordsInUse_32 : decode cJ21_recalculateWordsInUse 32 = .ok (.iload_n 1, 1) := dk_27 (dk_at dksJ21_recalculateWordsInUse_1 10 rfl rfl)
theorem dJ21_recalculateWordsInUse_33 : decode cJ21_recalculateWordsInUse 33 = .ok (.iconst 1, 1) := dk_4 (dk_at dksJ21_recalculateWordsInUse_1 11 rfl rfl)
theorem dJ21_recalculateWordsInUse_34 : decode cJ21_recalculateWordsInUse 34 = .ok (.iadd, 1) := dk_96 (dk_at dksJ21_recalculateWordsInUse_1 12 rfl rfl)
theorem dJ21_recalculateWordsInUse_35 : decode cJ21_recalculateWordsInUse 35 = .ok (.putfield 7, 3) := dk_181 0 7 (dk_at dksJ21_recalculateWordsInUse_1 13 rfl rfl)
theorem dJ21_recalculateWordsInUse_38 : decode cJ21_recalculateWordsInUse 38 = .ok (.return_, 1) := dk_177 (dk_at dksJ21_recalculateWordsInUse_1 16 rfl rfl)
abbrev cJ21_nextSetBit : ByteArray := prog_54_method_28_code
def yJ21_nextSetBit : MethodName := ⟨RJ21, "nextSetBit", "(I)I"⟩
def dkwJ21_nextSetBit_4 : List UInt8 := [28, 47, 66, 167, 255, 220]
abbrev dktJ21_nextSetBit_4 : List UInt8 := dkwJ21_nextSetBit_4 ++ []
def dkwJ21_nextSetBit_3 : List UInt8 := [104, 33, 184, 0, 182, 96, 172, 132, 2, 1, 28, 42, 180, 0, 7, 160, 0, 5, 2, 172, 42, 180, 0, 11]
abbrev dktJ21_nextSetBit_3 : List UInt8 := dkwJ21_nextSetBit_3 ++ dktJ21_nextSetBit_4
def dkwJ21_nextSetBit_2 : List UInt8 := [2, 172, 42, 180, 0, 11, 28, 47, 20, 0, 165, 27, 121, 127, 66, 33, 9, 148, 153, 0, 13, 28, 16, 64]
abbrev dktJ21_nextSetBit_2 : List UInt8 := dkwJ21_nextSetBit_2 ++ dktJ21_nextSetBit_3
def dkwJ21_nextSetBit_1 : List UInt8 := [182, 0, 45, 183, 0, 146, 191, 42, 182, 0, 56, 27, 184, 0, 52, 61, 28, 42, 180, 0, 7, 161, 0, 5]
abbrev dktJ21_nextSetBit_1 : List UInt8 := dkwJ21_nextSetBit_1 ++ dktJ21_nextSetBit_2
def dkwJ21_nextSetBit_0 : List UInt8 := [27, 156, 0, 30, 187, 0, 142, 89, 187, 0, 33, 89, 183, 0, 35, 18, 144, 182, 0, 38, 27, 182, 0, 42]
abbrev dktJ21_nextSetBit_0 : List UInt8 := dkwJ21_nextSetBit_0 ++ dktJ21_nextSetBit_1
theorem dksJ21_nextSetBit_0 : cJ21_nextSetBit.data.toList.drop 0 = dktJ21_nextSetBit_0 := by decide +kernel
theorem dksJ21_nextSetBit_1 : cJ21_nextSetBit.data.toList.drop 24 = dktJ21_nextSetBit_1 := dk_seg dksJ21_nextSetBit_0 24 rfl rfl
theorem dksJ21_nextSetBit_2 : cJ21_nextSetBit.data.toList.drop 48 = dktJ21_nextSetBit_2 := dk_seg dksJ21_nextSetBit_1 24 rfl rfl
theorem dksJ21_nextSetBit_3 : cJ21_nextSetBit.data.toList.drop 72 = dktJ21_nextSetBit_3 := dk_seg dksJ21_nextSetBit_2 24 rfl rfl
theorem dksJ21_nextSetBit_4 : cJ21_nextSetBit.data.toList.drop 96 = dktJ21_nextSetBit_4 := dk_seg dksJ21_nextSetBit_3 24 rfl rfl
theorem dJ21_nextSetBit_0 : decode cJ21_nextSetBit 0 = .ok (.iload_n 1, 1) := dk_27 (dk_at dksJ21_nextSetBit_0 0 rfl rfl)
theorem dJ21_nextSetBit_1 : decode cJ21_nextSetBit 1 = .ok (.ifCond .ge 30, 3) := dk_156 0 30 (dk_at dksJ21_nextSetBit_0 1 rfl rfl)
theorem dJ21_nextSetBit_4 : decode cJ21_nextSetBit 4 = .ok (.new 142, 3) := dk_187 0 142 (dk_at dksJ21_nextSetBit_0 4 rfl rfl)
theorem dJ21_nextSetBit_7 : decode cJ21_nextSetBit 7 = .ok (.dup, 1) := dk_89 (dk_at dksJ21_nextSetBit_0 7 rfl rfl)
theorem dJ21_nextSetBit_8 : decode cJ21_nextSetBit 8 = .ok (.new 33, 3) := dk_187 0 33 (dk_at dksJ21_nextSetBit_0 8 rfl rfl)
theorem dJ21_nextSetBit_11 : decode cJ21_nextSetBit 11 = .ok (.dup, 1) := dk_89 (dk_at dksJ21_nextSetBit_0 11 rfl rfl)
theorem dJ21_nextSetBit_12 : decode cJ21_nextSetBit 12 = .ok (.invokespecial 35, 3) := dk_183 0 35 (dk_at dksJ21_nextSetBit_0 12 rfl rfl)
theorem dJ21_nextSetBit_15 : decode cJ21_nextSetBit 15 = .ok (.ldc 144, 2) := dk_18 144 (dk_at dksJ21_nextSetBit_0 15 rfl rfl)
theorem dJ21_nextSetBit_17 : decode cJ21_nextSetBit 17 = .ok (.invokevirtual 38, 3) := dk_182 0 38 (dk_at dksJ21_nextSetBit_0 17 rfl rfl)
theorem dJ21_nextSetBit_20 : decode cJ21_nextSetBit 20 = .ok (.iload_n 1, 1) := dk_27 (dk_at dksJ21_nextSetBit_0 20 rfl rfl)
theorem dJ21_nextSetBit_21 : decode cJ21_nextSetBit 21 = .ok (.invokevirtual 42, 3) := dk_182 0 42 (dk_at dksJ21_nextSetBit_0 21 rfl rfl)
theorem dJ21_nextSetBit_24 : decode cJ21_nextSetBit 24 = .ok (.invokevirtual 45, 3) := dk_182 0 45 (dk_at dksJ21_nextSetBit_1 0 rfl rfl)
theorem dJ21_nextSetBit_27 : decode cJ21_nextSetBit 27 = .ok (.invokespecial 146, 3) := dk_183 0 146 (dk_at dksJ21_nextSetBit_1 3 rfl rfl)
theorem dJ21_nextSetBit_30 : decode cJ21_nextSetBit 30 = .ok (.athrow, 1) := dk_191 (dk_at dksJ21_nextSetBit_1 6 rfl rfl)
theorem dJ21_nextSetBit_31 : decode cJ21_nextSetBit 31 = .ok (.aload_n 0, 1) := dk_42 (dk_at dksJ21_nextSetBit_1 7 rfl rfl)
theorem dJ21_nextSetBit_32 : decode cJ21_nextSetBit 32 = .ok (.invokevirtual 56, 3) := dk_182 0 56 (dk_at dksJ21_nextSetBit_1 8 rfl rfl)
theorem dJ21_nextSetBit_35 : decode cJ21_nextSetBit 35 = .ok (.iload_n 1, 1) := dk_27 (dk_at dksJ21_nextSetBit_1 11 rfl rfl)
theorem dJ21_nextSetBit_36 : decode cJ21_nextSetBit 36 = .ok (.invokestatic 52, 3) := dk_184 0 52 (dk_at dksJ21_nextSetBit_1 12 rfl rfl)
theorem dJ21_nextSetBit_39 : decode cJ21_nextSetBit 39 = .ok (.istore_n 2, 1) := dk_61 (dk_at dksJ21_nextSetBit_1 15 rfl rfl)
theorem dJ21_nextSetBit_40 : decode cJ21_nextSetBit 40 = .ok (.iload_n 2, 1) := dk_28 (dk_at dksJ21_nextSetBit_1 16 rfl rfl)
theorem dJ21_nextSetBit_41 : decode cJ21_nextSetBit 41 = .ok (.aload_n 0, 1) := dk_42 (dk_at dksJ21_nextSetBit_1 17 rfl rfl)
theorem dJ21_nextSetBit_42 : decode cJ21_nextSetBit 42 = .ok (.getfield 7, 3) := dk_180 0 7 (dk_at dksJ21_nextSetBit_1 18 rfl rfl)
theorem dJ21_nextSetBit_45 : decode cJ21_nextSetBit 45 = .ok (.if_icmp .lt 5, 3) := dk_161 0 5 (dk_at dksJ21_nextSetBit_1 21 rfl rfl)
theorem dJ21_nextSetBit_48 : decode cJ21_nextSetBit 48 = .ok (.iconst (-1), 1) := dk_2 (dk_at dksJ21_nextSetBit_2 0 rfl rfl)
theorem dJ21_nextSetBit_49 : decode cJ21_nextSetBit 49 = .ok (.ireturn, 1) := dk_172 (dk_at dksJ21_nextSetBit_2 1 rfl rfl)
theorem dJ21_nextSetBit_50 : decode cJ21_nextSetBit 50 = .ok (.aload_n 0, 1) := dk_42 (dk_at dksJ21_nextSetBit_2 2 rfl rfl)
theorem dJ21_nextSetBit_51 : decode cJ21_nextSetBit 51 = .ok (.getfield 11, 3) := dk_180 0 11 (dk_at dksJ21_nextSetBit_2 3 rfl rfl)
theorem dJ21_nextSetBit_54 : decode cJ21_nextSetBit 54 = .ok (.iload_n 2, 1) := dk_28 (dk_at dksJ21_nextSetBit_2 6 rfl rfl)
theorem dJ21_nextSetBit_55 : decode cJ21_nextSetBit 55 = .ok (.laload, 1) := dk_47 (dk_at dksJ21_nextSetBit_2 7 rfl rfl)
theorem dJ21_nextSetBit_56 : decode cJ21_nextSetBit 56 = .ok (.ldc2_w 165, 3) := dk_20 0 165 (dk_at dksJ21_nextSetBit_2 8 rfl rfl)
theorem dJ21_nextSetBit_59 : decode cJ21_nextSetBit 59 = .ok (.iload_n 1, 1) := dk_27 (dk_at dksJ21_nextSetBit_2 11 rfl rfl)
theorem dJ21_nextSetBit_60 : decode cJ21_nextSetBit 60 = .ok (.lshl, 1) := dk_121 (dk_at dksJ21_nextSetBit_2 12 rfl rfl)
theorem dJ21_nextSetBit_61 : decode cJ21_nextSetBit 61 = .ok (.land, 1) := dk_127 (dk_at dksJ21_nextSetBit_2 13 rfl rfl)
theorem dJ21_nextSetBit_62 : decode cJ21_nextSetBit 62 = .ok (.lstore_n 3, 1) := dk_66 (dk_at dksJ21_nextSetBit_2 14 rfl rfl)
theorem dJ21_nextSetBit_63 : decode cJ21_nextSetBit 63 = .ok (.lload_n 3, 1) := dk_33 (dk_at dksJ21_nextSetBit_2 15 rfl rfl)
theorem dJ21_nextSetBit_64 : decode cJ21_nextSetBit 64 = .ok (.lconst 0, 1) := dk_9 (dk_at dksJ21_nextSetBit_2 16 rfl rfl)
theorem dJ21_nextSetBit_65 : decode cJ21_nextSetBit 65 = .ok (.lcmp, 1) := dk_148 (dk_at dksJ21_nextSetBit_2 17 rfl rfl)
theorem dJ21_nextSetBit_66 : decode cJ21_nextSetBit 66 = .ok (.ifCond .eq 13, 3) := dk_153 0 13 (dk_at dksJ21_nextSetBit_2 18 rfl rfl)
theorem dJ21_nextSetBit_69 : decode cJ21_nextSetBit 69 = .ok (.iload_n 2, 1) := dk_28 (dk_at dksJ21_nextSetBit_2 21 rfl rfl)
theorem dJ21_nextSetBit_70 : decode cJ21_nextSetBit 70 = .ok (.bipush 64, 2) := dk_16 64 (dk_at dksJ21_nextSetBit_2 22 rfl rfl)
theorem dJ21_nextSetBit_72 : decode cJ21_nextSetBit 72 = .ok (.imul, 1) := dk_104 (dk_at dksJ21_nextSetBit_3 0 rfl rfl)
theorem dJ21_nextSetBit_73 : decode cJ21_nextSetBit 73 = .ok (.lload_n 3, 1) := dk_33 (dk_at dksJ21_nextSetBit_3 1 rfl rfl)
theorem dJ21_nextSetBit_74 : decode cJ21_nextSetBit 74 = .ok (.invokestatic 182, 3) := dk_184 0 182 (dk_at dksJ21_nextSetBit_3 2 rfl rfl)
theorem dJ21_nextSetBit_77 : decode cJ21_nextSetBit 77 = .ok (.iadd, 1) := dk_96 (dk_at dksJ21_nextSetBit_3 5 rfl rfl)
theorem dJ21_nextSetBit_78 : decode cJ21_nextSetBit 78 = .ok (.ireturn, 1) := dk_172 (dk_at dksJ21_nextSetBit_3 6 rfl rfl)
theorem dJ21_nextSetBit_79 : decode cJ21_nextSetBit 79 = .ok (.iinc 2 1, 3) := dk_132 2 1 (dk_at dksJ21_nextSetBit_3 7 rfl rfl)
theorem dJ21_nextSetBit_82 : decode cJ21_nextSetBit 82 = .ok (.iload_n 2, 1) := dk_28 (dk_at dksJ21_nextSetBit_3 10 rfl rfl)
theorem dJ21_nextSetBit_83 : decode cJ21_nextSetBit 83 = .ok (.aload_n 0, 1) := dk_42 (dk_at dksJ21_nextSetBit_3 11 rfl rfl)
theorem dJ21_nextSetBit_84 : decode cJ21_nextSetBit 84 = .ok (.getfield 7, 3) := dk_180 0 7 (dk_at dksJ21_nextSetBit_3 12 rfl rfl)
theorem dJ21_nextSetBit_87 : decode cJ21_nextSetBit 87 = .ok (.if_icmp .ne 5, 3) := dk_160 0 5 (dk_at dksJ21_nextSetBit_3 15 rfl rfl)
theorem dJ21_nextSetBit_90 : decode cJ21_nextSetBit 90 = .ok (.iconst (-1), 1) := dk_2 (dk_at dksJ21_nextSetBit_3 18 rfl rfl)
theorem dJ21_nextSetBit_91 : decode cJ21_nextSetBit 91 = .ok (.ireturn, 1) := dk_172 (dk_at dksJ21_nextSetBit_3 19 rfl rfl)
theorem dJ21_nextSetBit_92 : decode cJ21_nextSetBit 92 = .ok (.aload_n 0, 1) := dk_42 (dk_at dksJ21_nextSetBit_3 20 rfl rfl)
theorem dJ21_nextSetBit_93 : decode cJ21_nextSetBit 93 = .ok (.getfield 11, 3) := dk_180 0 11 (dk_at dksJ21_nextSetBit_3 21 rfl rfl)
theorem dJ21_nextSetBit_96 : decode cJ21_nextSetBit 96 = .ok (.iload_n 2, 1) := dk_28 (dk_at dksJ21_nextSetBit_4 0 rfl rfl)
theorem dJ21_nextSetBit_97 : decode cJ21_nextSetBit 97 = .ok (.laload, 1) := dk_47 (dk_at dksJ21_nextSetBit_4 1 rfl rfl)
theorem dJ21_nextSetBit_98 : decode cJ21_nextSetBit 98 = .ok (.lstore_n 3, 1) := dk_66 (dk_at dksJ21_nextSetBit_4 2 rfl rfl)
theorem dJ21_nextSetBit_99 : decode cJ21_nextSetBit 99 = .ok (.goto (-36), 3) := dk_167 255 220 (dk_at dksJ21_nextSetBit_4 3 rfl rfl)
abbrev cJ21_cardinality : ByteArray := prog_54_method_35_code
def yJ21_cardinality : MethodName := ⟨RJ21, "cardinality", "()I"⟩
def dkwJ21_cardinality_1 : List UInt8 := [132, 2, 1, 167, 255, 233, 27, 172]
abbrev dktJ21_cardinality_1 : List UInt8 := dkwJ21_cardinality_1 ++ []
def dkwJ21_cardinality_0 : List UInt8 := [3, 60, 3, 61, 28, 42, 180, 0, 7, 162, 0, 21, 27, 42, 180, 0, 11, 28, 47, 184, 0, 196, 96, 60]
abbrev dktJ21_cardinality_0 : List UInt8 := dkwJ21_cardinality_0 ++ dktJ21_cardinality_1
theorem dksJ21_cardinality_0 : cJ21_cardinality.data.toList.drop 0 = dktJ21_cardinality_0 := by decide +kernel
theorem dksJ21_cardinality_1 : cJ21_cardinality.data.toList.drop 24 = dktJ21_cardinality_1 := dk_seg dksJ21_cardinality_0 24 rfl rfl
theorem dJ21_cardinality_0 : decode cJ21_cardinality 0 = .ok (.iconst 0, 1) := dk_3 (dk_at dksJ21_cardinality_0 0 rfl rfl)
theorem dJ21_cardinality_1 : decode cJ21_cardinality 1 = .ok (.istore_n 1, 1) := dk_60 (dk_at dksJ21_cardinality_0 1 rfl rfl)
theorem dJ21_cardinality_2 : decode cJ21_cardinality 2 = .ok (.iconst 0, 1) := dk_3 (dk_at dksJ21_cardinality_0 2 rfl rfl)
theorem dJ21_cardinality_3 : decode cJ21_cardinality 3 = .ok (.istore_n 2, 1) := dk_61 (dk_at dksJ21_cardinality_0 3 rfl rfl)
theorem dJ21_cardinality_4 : decode cJ21_cardinality 4 = .ok (.iload_n 2, 1) := dk_28 (dk_at dksJ21_cardinality_0 4 rfl rfl)
theorem dJ21_cardinality_5 : decode cJ21_cardinality 5 = .ok (.aload_n 0, 1) := dk_42 (dk_at dksJ21_cardinality_0 5 rfl rfl)
theorem dJ21_cardinality_6 : decode cJ21_cardinality 6 = .ok (.getfield 7, 3) := dk_180 0 7 (dk_at dksJ21_cardinality_0 6 rfl rfl)
theorem dJ21_cardinality_9 : decode cJ21_cardinality 9 = .ok (.if_icmp .ge 21, 3) := dk_162 0 21 (dk_at dksJ21_cardinality_0 9 rfl rfl)
theorem dJ21_cardinality_12 : decode cJ21_cardinality 12 = .ok (.iload_n 1, 1) := dk_27 (dk_at dksJ21_cardinality_0 12 rfl rfl)
theorem dJ21_cardinality_13 : decode cJ21_cardinality 13 = .ok (.aload_n 0, 1) := dk_42 (dk_at dksJ21_cardinality_0 13 rfl rfl)
theorem dJ21_cardinality_14 : decode cJ21_cardinality 14 = .ok (.getfield 11, 3) := dk_180 0 11 (dk_at dksJ21_cardinality_0 14 rfl rfl)
theorem dJ21_cardinality_17 : decode cJ21_cardinality 17 = .ok (.iload_n 2, 1) := dk_28 (dk_at dksJ21_cardinality_0 17 rfl rfl)
theorem dJ21_cardinality_18 : decode cJ21_cardinality 18 = .ok (.laload, 1) := dk_47 (dk_at dksJ21_cardinality_0 18 rfl rfl)
theorem dJ21_cardinality_19 : decode cJ21_cardinality 19 = .ok (.invokestatic 196, 3) := dk_184 0 196 (dk_at dksJ21_cardinality_0 19 rfl rfl)
theorem dJ21_cardinality_22 : decode cJ21_cardinality 22 = .ok (.iadd, 1) := dk_96 (dk_at dksJ21_cardinality_0 22 rfl rfl)
theorem dJ21_cardinality_23 : decode cJ21_cardinality 23 = .ok (.istore_n 1, 1) := dk_60 (dk_at dksJ21_cardinality_0 23 rfl rfl)
theorem dJ21_cardinality_24 : decode cJ21_cardinality 24 = .ok (.iinc 2 1, 3) := dk_132 2 1 (dk_at dksJ21_cardinality_1 0 rfl rfl)
theorem dJ21_cardinality_27 : decode cJ21_cardinality 27 = .ok (.goto (-23), 3) := dk_167 255 233 (dk_at dksJ21_cardinality_1 3 rfl rfl)
theorem dJ21_cardinality_30 : decode cJ21_cardinality 30 = .ok (.iload_n 1, 1) := dk_27 (dk_at dksJ21_cardinality_1 6 rfl rfl)
theorem dJ21_cardinality_31 : decode cJ21_cardinality 31 = .ok (.ireturn, 1) := dk_172 (dk_at dksJ21_cardinality_1 7 rfl rfl)
abbrev cJ21_or : ByteArray := prog_54_method_37_code
def yJ21_or : MethodName := ⟨RJ21, "or", "(Ljava/util/BitSet;)V"⟩
def dkwJ21_or_4 : List UInt8 := [180, 0, 7, 28, 100, 184, 0, 199, 42, 182, 0, 56, 177]
abbrev dktJ21_or_4 : List UInt8 := dkwJ21_or_4 ++ []
def dkwJ21_or_3 : List UInt8 := [167, 255, 233, 28, 43, 180, 0, 7, 162, 0, 22, 43, 180, 0, 11, 28, 42, 180, 0, 11, 28, 42]
abbrev dktJ21_or_3 : List UInt8 := dkwJ21_or_3 ++ dktJ21_or_4
def dkwJ21_or_2 : List UInt8 := [29, 28, 162, 0, 24, 42, 180, 0, 11, 29, 92, 47, 43, 180, 0, 11, 29, 47, 129, 80, 132, 3, 1]
abbrev dktJ21_or_2 : List UInt8 := dkwJ21_or_2 ++ dktJ21_or_3
def dkwJ21_or_1 : List UInt8 := [180, 0, 7, 162, 0, 19, 42, 43, 180, 0, 7, 182, 0, 139, 42, 43, 180, 0, 7, 181, 0, 7, 3, 62]
abbrev dktJ21_or_1 : List UInt8 := dkwJ21_or_1 ++ dktJ21_or_2
def dkwJ21_or_0 : List UInt8 := [42, 43, 166, 0, 4, 177, 42, 180, 0, 7, 43, 180, 0, 7, 184, 0, 193, 61, 42, 180, 0, 7, 43]
abbrev dktJ21_or_0 : List UInt8 := dkwJ21_or_0 ++ dktJ21_or_1
theorem dksJ21_or_0 : cJ21_or.data.toList.drop 0 = dktJ21_or_0 := by decide +kernel
theorem dksJ21_or_1 : cJ21_or.data.toList.drop 23 = dktJ21_or_1 := dk_seg dksJ21_or_0 23 rfl rfl
theorem dksJ21_or_2 : cJ21_or.data.toList.drop 47 = dktJ21_or_2 := dk_seg dksJ21_or_1 24 rfl rfl
theorem dksJ21_or_3 : cJ21_or.data.toList.drop 70 = dktJ21_or_3 := dk_seg dksJ21_or_2 23 rfl rfl
theorem dksJ21_or_4 : cJ21_or.data.toList.drop 92 = dktJ21_or_4 := dk_seg dksJ21_or_3 22 rfl rfl
theorem dJ21_or_0 : decode cJ21_or 0 = .ok (.aload_n 0, 1) := dk_42 (dk_at dksJ21_or_0 0 rfl rfl)
theorem dJ21_or_1 : decode cJ21_or 1 = .ok (.aload_n 1, 1) := dk_43 (dk_at dksJ21_or_0 1 rfl rfl)
theorem dJ21_or_2 : decode cJ21_or 2 = .ok (.if_acmp .ne 4, 3) := dk_166 0 4 (dk_at dksJ21_or_0 2 rfl rfl)
theorem dJ21_or_5 : decode cJ21_or 5 = .ok (.return_, 1) := dk_177 (dk_at dksJ21_or_0 5 rfl rfl)
theorem dJ21_or_6 : decode cJ21_or 6 = .ok (.aload_n 0, 1) := dk_42 (dk_at dksJ21_or_0 6 rfl rfl)
theorem dJ21_or_7 : decode cJ21_or 7 = .ok (.getfield 7, 3) := dk_180 0 7 (dk_at dksJ21_or_0 7 rfl rfl)
theorem dJ21_or_10 : decode cJ21_or 10 = .ok (.aload_n 1, 1) := dk_43 (dk_at dksJ21_or_0 10 rfl rfl)
theorem dJ21_or_11 : decode cJ21_or 11 = .ok (.getfield 7, 3) := dk_180 0 7 (dk_at dksJ21_or_0 11 rfl rfl)
theorem dJ21_or_14 : decode cJ21_or 14 = .ok (.invokestatic 193, 3) := dk_184 0 193 (dk_at dksJ21_or_0 14 rfl rfl)
theorem dJ21_or_17 : decode cJ21_or 17 = .ok (.istore_n 2, 1) := dk_61 (dk_at dksJ21_or_0 17 rfl rfl)
theorem dJ21_or_18 : decode cJ21_or 18 = .ok (.aload_n 0, 1) := dk_42 (dk_at dksJ21_or_0 18 rfl rfl)
theorem dJ21_or_19 : decode cJ21_or 19 = .ok (.getfield 7, 3) := dk_180 0 7 (dk_at dksJ21_or_0 19 rfl rfl)
theorem dJ21_or_22 : decode cJ21_or 22 = .ok (.aload_n 1, 1) := dk_43 (dk_at dksJ21_or_0 22 rfl rfl)
theorem dJ21_or_23 : decode cJ21_or 23 = .ok (.getfield 7, 3) := dk_180 0 7 (dk_at dksJ21_or_1 0 rfl rfl)
theorem dJ21_or_26 : decode cJ21_or 26 = .ok (.if_icmp .ge 19, 3) := dk_162 0 19 (dk_at dksJ21_or_1 3 rfl rfl)
theorem dJ21_or_29 : decode cJ21_or 29 = .ok (.aload_n 0, 1) := dk_42 (dk_at dksJ21_or_1 6 rfl rfl)
theorem dJ21_or_30 : decode cJ21_or 30 = .ok (.aload_n 1, 1) := dk_43 (dk_at dksJ21_or_1 7 rfl rfl)
theorem dJ21_or_31 : decode cJ21_or 31 = .ok (.getfield 7, 3) := dk_180 0 7 (dk_at dksJ21_or_1 8 rfl rfl)
theorem dJ21_or_34 : decode cJ21_or 34 = .ok (.invokevirtual 139, 3) := dk_182 0 139 (dk_at dksJ21_or_1 11 rfl rfl)
theorem dJ21_or_37 : decode cJ21_or 37 = .ok (.aload_n 0, 1) := dk_42 (dk_at dksJ21_or_1 14 rfl rfl)
theorem dJ21_or_38 : decode cJ21_or 38 = .ok (.aload_n 1, 1) := dk_43 (dk_at dksJ21_or_1 15 rfl rfl)
theorem dJ21_or_39 : decode cJ21_or 39 = .ok (.getfield 7, 3) := dk_180 0 7 (dk_at dksJ21_or_1 16 rfl rfl)
theorem dJ21_or_42 : decode cJ21_or 42 = .ok (.putfield 7, 3) := dk_181 0 7 (dk_at dksJ21_or_1 19 rfl rfl)
theorem dJ21_or_45 : decode cJ21_or 45 = .ok (.iconst 0, 1) := dk_3 (dk_at dksJ21_or_1 22 rfl rfl)
theorem dJ21_or_46 : decode cJ21_or 46 = .ok (.istore_n 3, 1) := dk_62 (dk_at dksJ21_or_1 23 rfl rfl)
theorem dJ21_or_47 : decode cJ21_or 47 = .ok (.iload_n 3, 1) := dk_29 (dk_at dksJ21_or_2 0 rfl rfl)
theorem dJ21_or_48 : decode cJ21_or 48 = .ok (.iload_n 2, 1) := dk_28 (dk_at dksJ21_or_2 1 rfl rfl)
theorem dJ21_or_49 : decode cJ21_or 49 = .ok (.if_icmp .ge 24, 3) := dk_162 0 24 (dk_at dksJ21_or_2 2 rfl rfl)
theorem dJ21_or_52 : decode cJ21_or 52 = .ok (.aload_n 0, 1) := dk_42 (dk_at dksJ21_or_2 5 rfl rfl)
theorem dJ21_or_53 : decode cJ21_or 53 = .ok (.getfield 11, 3) := dk_180 0 11 (dk_at dksJ21_or_2 6 rfl rfl)
theorem dJ21_or_56 : decode cJ21_or 56 = .ok (.iload_n 3, 1) := dk_29 (dk_at dksJ21_or_2 9 rfl rfl)
theorem dJ21_or_57 : decode cJ21_or 57 = .ok (.dup2, 1) := dk_92 (dk_at dksJ21_or_2 10 rfl rfl)
theorem dJ21_or_58 : decode cJ21_or 58 = .ok (.laload, 1) := dk_47 (dk_at dksJ21_or_2 11 rfl rfl)
theorem dJ21_or_59 : decode cJ21_or 59 = .ok (.aload_n 1, 1) := dk_43 (dk_at dksJ21_or_2 12 rfl rfl)
theorem dJ21_or_60 : decode cJ21_or 60 = .ok (.getfield 11, 3) := dk_180 0 11 (dk_at dksJ21_or_2 13 rfl rfl)
theorem dJ21_or_63 : decode cJ21_or 63 = .ok (.iload_n 3, 1) := dk_29 (dk_at dksJ21_or_2 16 rfl rfl)
theorem dJ21_or_64 : decode cJ21_or 64 = .ok (.laload, 1) := dk_47 (dk_at dksJ21_or_2 17 rfl rfl)
theorem dJ21_or_65 : decode cJ21_or 65 = .ok (.lor, 1) := dk_129 (dk_at dksJ21_or_2 18 rfl rfl)
theorem dJ21_or_66 : decode cJ21_or 66 = .ok (.lastore, 1) := dk_80 (dk_at dksJ21_or_2 19 rfl rfl)
theorem dJ21_or_67 : decode cJ21_or 67 = .ok (.iinc 3 1, 3) := dk_132 3 1 (dk_at dksJ21_or_2 20 rfl rfl)
theorem dJ21_or_70 : decode cJ21_or 70 = .ok (.goto (-23), 3) := dk_167 255 233 (dk_at dksJ21_or_3 0 rfl rfl)
theorem dJ21_or_73 : decode cJ21_or 73 = .ok (.iload_n 2, 1) := dk_28 (dk_at dksJ21_or_3 3 rfl rfl)
theorem dJ21_or_74 : decode cJ21_or 74 = .ok (.aload_n 1, 1) := dk_43 (dk_at dksJ21_or_3 4 rfl rfl)
theorem dJ21_or_75 : decode cJ21_or 75 = .ok (.getfield 7, 3) := dk_180 0 7 (dk_at dksJ21_or_3 5 rfl rfl)
theorem dJ21_or_78 : decode cJ21_or 78 = .ok (.if_icmp .ge 22, 3) := dk_162 0 22 (dk_at dksJ21_or_3 8 rfl rfl)
theorem dJ21_or_81 : decode cJ21_or 81 = .ok (.aload_n 1, 1) := dk_43 (dk_at dksJ21_or_3 11 rfl rfl)
theorem dJ21_or_82 : decode cJ21_or 82 = .ok (.getfield 11, 3) := dk_180 0 11 (dk_at dksJ21_or_3 12 rfl rfl)
theorem dJ21_or_85 : decode cJ21_or 85 = .ok (.iload_n 2, 1) := dk_28 (dk_at dksJ21_or_3 15 rfl rfl)
theorem dJ21_or_86 : decode cJ21_or 86 = .ok (.aload_n 0, 1) := dk_42 (dk_at dksJ21_or_3 16 rfl rfl)
theorem dJ21_or_87 : decode cJ21_or 87 = .ok (.getfield 11, 3) := dk_180 0 11 (dk_at dksJ21_or_3 17 rfl rfl)
theorem dJ21_or_90 : decode cJ21_or 90 = .ok (.iload_n 2, 1) := dk_28 (dk_at dksJ21_or_3 20 rfl rfl)
theorem dJ21_or_91 : decode cJ21_or 91 = .ok (.aload_n 0, 1) := dk_42 (dk_at dksJ21_or_3 21 rfl rfl)
theorem dJ21_or_92 : decode cJ21_or 92 = .ok (.getfield 7, 3) := dk_180 0 7 (dk_at dksJ21_or_4 0 rfl rfl)
theorem dJ21_or_95 : decode cJ21_or 95 = .ok (.iload_n 2, 1) := dk_28 (dk_at dksJ21_or_4 3 rfl rfl)
theorem dJ21_or_96 : decode cJ21_or 96 = .ok (.isub, 1) := dk_100 (dk_at dksJ21_or_4 4 rfl rfl)
theorem dJ21_or_97 : decode cJ21_or 97 = .ok (.invokestatic 199, 3) := dk_184 0 199 (dk_at dksJ21_or_4 5 rfl rfl)
theorem dJ21_or_100 : decode cJ21_or 100 = .ok (.aload_n 0, 1) := dk_42 (dk_at dksJ21_or_4 8 rfl rfl)
theorem dJ21_or_101 : decode cJ21_or 101 = .ok (.invokevirtual 56, 3) := dk_182 0 56 (dk_at dksJ21_or_4 9 rfl rfl)
theorem dJ21_or_104 : decode cJ21_or 104 = .ok (.return_, 1) := dk_177 (dk_at dksJ21_or_4 12 rfl rfl)
abbrev cJ21_clear : ByteArray := prog_54_method_25_code
def yJ21_clear : MethodName := ⟨RJ21, "clear", "()V"⟩
def dkwJ21_clear_1 : List UInt8 := [167, 255, 232, 177]
abbrev dktJ21_clear_1 : List UInt8 := dkwJ21_clear_1 ++ []
def dkwJ21_clear_0 : List UInt8 := [42, 180, 0, 7, 158, 0, 23, 42, 180, 0, 11, 42, 89, 180, 0, 7, 4, 100, 90, 181, 0, 7, 9, 80]
abbrev dktJ21_clear_0 : List UInt8 := dkwJ21_clear_0 ++ dktJ21_clear_1
theorem dksJ21_clear_0 : cJ21_clear.data.toList.drop 0 = dktJ21_clear_0 := by decide +kernel
theorem dksJ21_clear_1 : cJ21_clear.data.toList.drop 24 = dktJ21_clear_1 := dk_seg dksJ21_clear_0 24 rfl rfl
theorem dJ21_clear_0 : decode cJ21_clear 0 = .ok (.aload_n 0, 1) := dk_42 (dk_at dksJ21_clear_0 0 rfl rfl)
theorem dJ21_clear_1 : decode cJ21_clear 1 = .ok (.getfield 7, 3) := dk_180 0 7 (dk_at dksJ21_clear_0 1 rfl rfl)
theorem dJ21_clear_4 : decode cJ21_clear 4 = .ok (.ifCond .le 23, 3) := dk_158 0 23 (dk_at dksJ21_clear_0 4 rfl rfl)
theorem dJ21_clear_7 : decode cJ21_clear 7 = .ok (.aload_n 0, 1) := dk_42 (dk_at dksJ21_clear_0 7 rfl rfl)
theorem dJ21_clear_8 : decode cJ21_clear 8 = .ok (.getfield 11, 3) := dk_180 0 11 (dk_at dksJ21_clear_0 8 rfl rfl)
theorem dJ21_clear_11 : decode cJ21_clear 11 = .ok (.aload_n 0, 1) := dk_42 (dk_at dksJ21_clear_0 11 rfl rfl)
theorem dJ21_clear_12 : decode cJ21_clear 12 = .ok (.dup, 1) := dk_89 (dk_at dksJ21_clear_0 12 rfl rfl)
theorem dJ21_clear_13 : decode cJ21_clear 13 = .ok (.getfield 7, 3) := dk_180 0 7 (dk_at dksJ21_clear_0 13 rfl rfl)
theorem dJ21_clear_16 : decode cJ21_clear 16 = .ok (.iconst 1, 1) := dk_4 (dk_at dksJ21_clear_0 16 rfl rfl)
theorem dJ21_clear_17 : decode cJ21_clear 17 = .ok (.isub, 1) := dk_100 (dk_at dksJ21_clear_0 17 rfl rfl)
theorem dJ21_clear_18 : decode cJ21_clear 18 = .ok (.dup_x1, 1) := dk_90 (dk_at dksJ21_clear_0 18 rfl rfl)
theorem dJ21_clear_19 : decode cJ21_clear 19 = .ok (.putfield 7, 3) := dk_181 0 7 (dk_at dksJ21_clear_0 19 rfl rfl)
theorem dJ21_clear_22 : decode cJ21_clear 22 = .ok (.lconst 0, 1) := dk_9 (dk_at dksJ21_clear_0 22 rfl rfl)
theorem dJ21_clear_23 : decode cJ21_clear 23 = .ok (.lastore, 1) := dk_80 (dk_at dksJ21_clear_0 23 rfl rfl)
theorem dJ21_clear_24 : decode cJ21_clear 24 = .ok (.goto (-24), 3) := dk_167 255 232 (dk_at dksJ21_clear_1 0 rfl rfl)
theorem dJ21_clear_27 : decode cJ21_clear 27 = .ok (.return_, 1) := dk_177 (dk_at dksJ21_clear_1 3 rfl rfl)
abbrev cJ21_clear_2 : ByteArray := prog_54_method_23_code
def yJ21_clear_2 : MethodName := ⟨RJ21, "clear", "(I)V"⟩
def dkwJ21_clear_2_2 : List UInt8 := [180, 0, 11, 28, 92, 47, 10, 27, 121, 20, 0, 165, 131, 127, 80, 42, 182, 0, 158, 42, 182, 0, 56, 177]
abbrev dktJ21_clear_2_2 : List UInt8 := dkwJ21_clear_2_2 ++ []
def dkwJ21_clear_2_1 : List UInt8 := [182, 0, 45, 183, 0, 146, 191, 27, 184, 0, 52, 61, 28, 42, 180, 0, 7, 161, 0, 4, 177, 42]
abbrev dktJ21_clear_2_1 : List UInt8 := dkwJ21_clear_2_1 ++ dktJ21_clear_2_2
def dkwJ21_clear_2_0 : List UInt8 := [27, 156, 0, 30, 187, 0, 142, 89, 187, 0, 33, 89, 183, 0, 35, 18, 153, 182, 0, 38, 27, 182, 0, 42]
abbrev dktJ21_clear_2_0 : List UInt8 := dkwJ21_clear_2_0 ++ dktJ21_clear_2_1
theorem dksJ21_clear_2_0 : cJ21_clear_2.data.toList.drop 0 = dktJ21_clear_2_0 := by decide +kernel
theorem dksJ21_clear_2_1 : cJ21_clear_2.data.toList.drop 24 = dktJ21_clear_2_1 := dk_seg dksJ21_clear_2_0 24 rfl rfl
theorem dksJ21_clear_2_2 : cJ21_clear_2.data.toList.drop 46 = dktJ21_clear_2_2 := dk_seg dksJ21_clear_2_1 22 rfl rfl
theorem dJ21_clear_2_0 : decode cJ21_clear_2 0 = .ok (.iload_n 1, 1) := dk_27 (dk_at dksJ21_clear_2_0 0 rfl rfl)
theorem dJ21_clear_2_1 : decode cJ21_clear_2 1 = .ok (.ifCond .ge 30, 3) := dk_156 0 30 (dk_at dksJ21_clear_2_0 1 rfl rfl)
theorem dJ21_clear_2_4 : decode cJ21_clear_2 4 = .ok (.new 142, 3) := dk_187 0 142 (dk_at dksJ21_clear_2_0 4 rfl rfl)
theorem dJ21_clear_2_7 : decode cJ21_clear_2 7 = .ok (.dup, 1) := dk_89 (dk_at dksJ21_clear_2_0 7 rfl rfl)
theorem dJ21_clear_2_8 : decode cJ21_clear_2 8 = .ok (.new 33, 3) := dk_187 0 33 (dk_at dksJ21_clear_2_0 8 rfl rfl)
theorem dJ21_clear_2_11 : decode cJ21_clear_2 11 = .ok (.dup, 1) := dk_89 (dk_at dksJ21_clear_2_0 11 rfl rfl)
theorem dJ21_clear_2_12 : decode cJ21_clear_2 12 = .ok (.invokespecial 35, 3) := dk_183 0 35 (dk_at dksJ21_clear_2_0 12 rfl rfl)
theorem dJ21_clear_2_15 : decode cJ21_clear_2 15 = .ok (.ldc 153, 2) := dk_18 153 (dk_at dksJ21_clear_2_0 15 rfl rfl)
theorem dJ21_clear_2_17 : decode cJ21_clear_2 17 = .ok (.invokevirtual 38, 3) := dk_182 0 38 (dk_at dksJ21_clear_2_0 17 rfl rfl)
theorem dJ21_clear_2_20 : decode cJ21_clear_2 20 = .ok (.iload_n 1, 1) := dk_27 (dk_at dksJ21_clear_2_0 20 rfl rfl)
theorem dJ21_clear_2_21 : decode cJ21_clear_2 21 = .ok (.invokevirtual 42, 3) := dk_182 0 42 (dk_at dksJ21_clear_2_0 21 rfl rfl)
theorem dJ21_clear_2_24 : decode cJ21_clear_2 24 = .ok (.invokevirtual 45, 3) := dk_182 0 45 (dk_at dksJ21_clear_2_1 0 rfl rfl)
theorem dJ21_clear_2_27 : decode cJ21_clear_2 27 = .ok (.invokespecial 146, 3) := dk_183 0 146 (dk_at dksJ21_clear_2_1 3 rfl rfl)
theorem dJ21_clear_2_30 : decode cJ21_clear_2 30 = .ok (.athrow, 1) := dk_191 (dk_at dksJ21_clear_2_1 6 rfl rfl)
theorem dJ21_clear_2_31 : decode cJ21_clear_2 31 = .ok (.iload_n 1, 1) := dk_27 (dk_at dksJ21_clear_2_1 7 rfl rfl)
theorem dJ21_clear_2_32 : decode cJ21_clear_2 32 = .ok (.invokestatic 52, 3) := dk_184 0 52 (dk_at dksJ21_clear_2_1 8 rfl rfl)
theorem dJ21_clear_2_35 : decode cJ21_clear_2 35 = .ok (.istore_n 2, 1) := dk_61 (dk_at dksJ21_clear_2_1 11 rfl rfl)
theorem dJ21_clear_2_36 : decode cJ21_clear_2 36 = .ok (.iload_n 2, 1) := dk_28 (dk_at dksJ21_clear_2_1 12 rfl rfl)
theorem dJ21_clear_2_37 : decode cJ21_clear_2 37 = .ok (.aload_n 0, 1) := dk_42 (dk_at dksJ21_clear_2_1 13 rfl rfl)
theorem dJ21_clear_2_38 : decode cJ21_clear_2 38 = .ok (.getfield 7, 3) := dk_180 0 7 (dk_at dksJ21_clear_2_1 14 rfl rfl)
theorem dJ21_clear_2_41 : decode cJ21_clear_2 41 = .ok (.if_icmp .lt 4, 3) := dk_161 0 4 (dk_at dksJ21_clear_2_1 17 rfl rfl)
theorem dJ21_clear_2_44 : decode cJ21_clear_2 44 = .ok (.return_, 1) := dk_177 (dk_at dksJ21_clear_2_1 20 rfl rfl)
theorem dJ21_clear_2_45 : decode cJ21_clear_2 45 = .ok (.aload_n 0, 1) := dk_42 (dk_at dksJ21_clear_2_1 21 rfl rfl)
theorem dJ21_clear_2_46 : decode cJ21_clear_2 46 = .ok (.getfield 11, 3) := dk_180 0 11 (dk_at dksJ21_clear_2_2 0 rfl rfl)
theorem dJ21_clear_2_49 : decode cJ21_clear_2 49 = .ok (.iload_n 2, 1) := dk_28 (dk_at dksJ21_clear_2_2 3 rfl rfl)
theorem dJ21_clear_2_50 : decode cJ21_clear_2 50 = .ok (.dup2, 1) := dk_92 (dk_at dksJ21_clear_2_2 4 rfl rfl)
theorem dJ21_clear_2_51 : decode cJ21_clear_2 51 = .ok (.laload, 1) := dk_47 (dk_at dksJ21_clear_2_2 5 rfl rfl)
theorem dJ21_clear_2_52 : decode cJ21_clear_2 52 = .ok (.lconst 1, 1) := dk_10 (dk_at dksJ21_clear_2_2 6 rfl rfl)
theorem dJ21_clear_2_53 : decode cJ21_clear_2 53 = .ok (.iload_n 1, 1) := dk_27 (dk_at dksJ21_clear_2_2 7 rfl rfl)
theorem dJ21_clear_2_54 : decode cJ21_clear_2 54 = .ok (.lshl, 1) := dk_121 (dk_at dksJ21_clear_2_2 8 rfl rfl)
theorem dJ21_clear_2_55 : decode cJ21_clear_2 55 = .ok (.ldc2_w 165, 3) := dk_20 0 165 (dk_at dksJ21_clear_2_2 9 rfl rfl)
theorem dJ21_clear_2_58 : decode cJ21_clear_2 58 = .ok (.lxor, 1) := dk_131 (dk_at dksJ21_clear_2_2 12 rfl rfl)
theorem dJ21_clear_2_59 : decode cJ21_clear_2 59 = .ok (.land, 1) := dk_127 (dk_at dksJ21_clear_2_2 13 rfl rfl)
theorem dJ21_clear_2_60 : decode cJ21_clear_2 60 = .ok (.lastore, 1) := dk_80 (dk_at dksJ21_clear_2_2 14 rfl rfl)
theorem dJ21_clear_2_61 : decode cJ21_clear_2 61 = .ok (.aload_n 0, 1) := dk_42 (dk_at dksJ21_clear_2_2 15 rfl rfl)
theorem dJ21_clear_2_62 : decode cJ21_clear_2 62 = .ok (.invokevirtual 158, 3) := dk_182 0 158 (dk_at dksJ21_clear_2_2 16 rfl rfl)
theorem dJ21_clear_2_65 : decode cJ21_clear_2 65 = .ok (.aload_n 0, 1) := dk_42 (dk_at dksJ21_clear_2_2 19 rfl rfl)
theorem dJ21_clear_2_66 : decode cJ21_clear_2 66 = .ok (.invokevirtual 56, 3) := dk_182 0 56 (dk_at dksJ21_clear_2_2 20 rfl rfl)
theorem dJ21_clear_2_69 : decode cJ21_clear_2 69 = .ok (.return_, 1) := dk_177 (dk_at dksJ21_clear_2_2 23 rfl rfl)
abbrev cJ21_set_3 : ByteArray := prog_54_method_20_code
def yJ21_set_3 : MethodName := ⟨RJ21, "set", "(IZ)V"⟩
def dkwJ21_set_3_0 : List UInt8 := [28, 153, 0, 11, 42, 27, 182, 0, 167, 167, 0, 8, 42, 27, 182, 0, 170, 177]
abbrev dktJ21_set_3_0 : List UInt8 := dkwJ21_set_3_0 ++ []
theorem dksJ21_set_3_0 : cJ21_set_3.data.toList.drop 0 = dktJ21_set_3_0 := by decide +kernel
theorem dJ21_set_3_0 : decode cJ21_set_3 0 = .ok (.iload_n 2, 1) := dk_28 (dk_at dksJ21_set_3_0 0 rfl rfl)
theorem dJ21_set_3_1 : decode cJ21_set_3 1 = .ok (.ifCond .eq 11, 3) := dk_153 0 11 (dk_at dksJ21_set_3_0 1 rfl rfl)
theorem dJ21_set_3_4 : decode cJ21_set_3 4 = .ok (.aload_n 0, 1) := dk_42 (dk_at dksJ21_set_3_0 4 rfl rfl)
theorem dJ21_set_3_5 : decode cJ21_set_3 5 = .ok (.iload_n 1, 1) := dk_27 (dk_at dksJ21_set_3_0 5 rfl rfl)
theorem dJ21_set_3_6 : decode cJ21_set_3 6 = .ok (.invokevirtual 167, 3) := dk_182 0 167 (dk_at dksJ21_set_3_0 6 rfl rfl)
theorem dJ21_set_3_9 : decode cJ21_set_3 9 = .ok (.goto 8, 3) := dk_167 0 8 (dk_at dksJ21_set_3_0 9 rfl rfl)
theorem dJ21_set_3_12 : decode cJ21_set_3 12 = .ok (.aload_n 0, 1) := dk_42 (dk_at dksJ21_set_3_0 12 rfl rfl)
theorem dJ21_set_3_13 : decode cJ21_set_3 13 = .ok (.iload_n 1, 1) := dk_27 (dk_at dksJ21_set_3_0 13 rfl rfl)
theorem dJ21_set_3_14 : decode cJ21_set_3 14 = .ok (.invokevirtual 170, 3) := dk_182 0 170 (dk_at dksJ21_set_3_0 14 rfl rfl)
theorem dJ21_set_3_17 : decode cJ21_set_3 17 = .ok (.return_, 1) := dk_177 (dk_at dksJ21_set_3_0 17 rfl rfl)

/-! decode rows: J22.java_util_ImmutableCollections.lean.txt -/
set_option maxRecDepth 100000
abbrev cJ22_listFromTrustedArray : ByteArray := prog_57_method_5_code
def yJ22_listFromTrustedArray : MethodName := ⟨RJ22, "listFromTrustedArray", "([Ljava/lang/Object;)Ljava/util/List;"⟩
def dkwJ22_listFromTrustedArray_5 : List UInt8 := [3, 50, 42, 4, 50, 183, 0, 67, 167, 0, 12, 187, 0, 12, 89, 42, 3, 183, 0, 43, 176]
abbrev dktJ22_listFromTrustedArray_5 : List UInt8 := dkwJ22_listFromTrustedArray_5 ++ []
def dkwJ22_listFromTrustedArray_4 : List UInt8 := [178, 0, 60, 167, 0, 41, 187, 0, 10, 89, 42, 3, 50, 183, 0, 64, 167, 0, 28, 187, 0, 10, 89, 42]
abbrev dktJ22_listFromTrustedArray_4 : List UInt8 := dkwJ22_listFromTrustedArray_4 ++ dktJ22_listFromTrustedArray_5
def dkwJ22_listFromTrustedArray_3 : List UInt8 := [170, 0, 0, 0, 0, 61, 0, 0, 0, 0, 0, 0, 0, 2, 0, 0, 0, 26, 0, 0, 0, 32, 0, 0, 0, 45]
abbrev dktJ22_listFromTrustedArray_3 : List UInt8 := dkwJ22_listFromTrustedArray_3 ++ dktJ22_listFromTrustedArray_4
def dkwJ22_listFromTrustedArray_2 : List UInt8 := [132, 3, 1, 167, 255, 237, 42, 190]
abbrev dktJ22_listFromTrustedArray_2 : List UInt8 := dkwJ22_listFromTrustedArray_2 ++ dktJ22_listFromTrustedArray_3
def dkwJ22_listFromTrustedArray_1 : List UInt8 := [76, 43, 190, 61, 3, 62, 29, 28, 162, 0, 20, 43, 29, 50, 58, 4, 25, 4, 184, 0, 37, 87]
abbrev dktJ22_listFromTrustedArray_1 : List UInt8 := dkwJ22_listFromTrustedArray_1 ++ dktJ22_listFromTrustedArray_2
def dkwJ22_listFromTrustedArray_0 : List UInt8 := [178, 0, 46, 154, 0, 20, 42, 182, 0, 51, 18, 55, 165, 0, 11, 187, 0, 57, 89, 183, 0, 59, 191, 42]
abbrev dktJ22_listFromTrustedArray_0 : List UInt8 := dkwJ22_listFromTrustedArray_0 ++ dktJ22_listFromTrustedArray_1
theorem dksJ22_listFromTrustedArray_0 : cJ22_listFromTrustedArray.data.toList.drop 0 = dktJ22_listFromTrustedArray_0 := by decide +kernel
theorem dksJ22_listFromTrustedArray_1 : cJ22_listFromTrustedArray.data.toList.drop 24 = dktJ22_listFromTrustedArray_1 := dk_seg dksJ22_listFromTrustedArray_0 24 rfl rfl
theorem dksJ22_listFromTrustedArray_2 : cJ22_listFromTrustedArray.data.toList.drop 46 = dktJ22_listFromTrustedArray_2 := dk_seg dksJ22_listFromTrustedArray_1 22 rfl rfl
theorem dksJ22_listFromTrustedArray_3 : cJ22_listFromTrustedArray.data.toList.drop 54 = dktJ22_listFromTrustedArray_3 := dk_seg dksJ22_listFromTrustedArray_2 8 rfl rfl
theorem dksJ22_listFromTrustedArray_4 : cJ22_listFromTrustedArray.data.toList.drop 80 = dktJ22_listFromTrustedArray_4 := dk_seg dksJ22_listFromTrustedArray_3 26 rfl rfl
theorem dksJ22_listFromTrustedArray_5 : cJ22_listFromTrustedArray.data.toList.drop 104 = dktJ22_listFromTrustedArray_5 := dk_seg dksJ22_listFromTrustedArray_4 24 rfl rfl
theorem dJ22_listFromTrustedArray_0 : decode cJ22_listFromTrustedArray 0 = .ok (.getstatic 46, 3) := dk_178 0 46 (dk_at dksJ22_listFromTrustedArray_0 0 rfl rfl)
theorem dJ22_listFromTrustedArray_3 : decode cJ22_listFromTrustedArray 3 = .ok (.ifCond .ne 20, 3) := dk_154 0 20 (dk_at dksJ22_listFromTrustedArray_0 3 rfl rfl)
theorem dJ22_listFromTrustedArray_6 : decode cJ22_listFromTrustedArray 6 = .ok (.aload_n 0, 1) := dk_42 (dk_at dksJ22_listFromTrustedArray_0 6 rfl rfl)
theorem dJ22_listFromTrustedArray_7 : decode cJ22_listFromTrustedArray 7 = .ok (.invokevirtual 51, 3) := dk_182 0 51 (dk_at dksJ22_listFromTrustedArray_0 7 rfl rfl)
theorem dJ22_listFromTrustedArray_10 : decode cJ22_listFromTrustedArray 10 = .ok (.ldc 55, 2) := dk_18 55 (dk_at dksJ22_listFromTrustedArray_0 10 rfl rfl)
theorem dJ22_listFromTrustedArray_12 : decode cJ22_listFromTrustedArray 12 = .ok (.if_acmp .eq 11, 3) := dk_165 0 11 (dk_at dksJ22_listFromTrustedArray_0 12 rfl rfl)
theorem dJ22_listFromTrustedArray_15 : decode cJ22_listFromTrustedArray 15 = .ok (.new 57, 3) := dk_187 0 57 (dk_at dksJ22_listFromTrustedArray_0 15 rfl rfl)
theorem dJ22_listFromTrustedArray_18 : decode cJ22_listFromTrustedArray 18 = .ok (.dup, 1) := dk_89 (dk_at dksJ22_listFromTrustedArray_0 18 rfl rfl)
theorem dJ22_listFromTrustedArray_19 : decode cJ22_listFromTrustedArray 19 = .ok (.invokespecial 59, 3) := dk_183 0 59 (dk_at dksJ22_listFromTrustedArray_0 19 rfl rfl)
theorem dJ22_listFromTrustedArray_22 : decode cJ22_listFromTrustedArray 22 = .ok (.athrow, 1) := dk_191 (dk_at dksJ22_listFromTrustedArray_0 22 rfl rfl)
theorem dJ22_listFromTrustedArray_23 : decode cJ22_listFromTrustedArray 23 = .ok (.aload_n 0, 1) := dk_42 (dk_at dksJ22_listFromTrustedArray_0 23 rfl rfl)
theorem dJ22_listFromTrustedArray_24 : decode cJ22_listFromTrustedArray 24 = .ok (.astore_n 1, 1) := dk_76 (dk_at dksJ22_listFromTrustedArray_1 0 rfl rfl)
theorem dJ22_listFromTrustedArray_25 : decode cJ22_listFromTrustedArray 25 = .ok (.aload_n 1, 1) := dk_43 (dk_at dksJ22_listFromTrustedArray_1 1 rfl rfl)
theorem dJ22_listFromTrustedArray_26 : decode cJ22_listFromTrustedArray 26 = .ok (.arraylength, 1) := dk_190 (dk_at dksJ22_listFromTrustedArray_1 2 rfl rfl)
theorem dJ22_listFromTrustedArray_27 : decode cJ22_listFromTrustedArray 27 = .ok (.istore_n 2, 1) := dk_61 (dk_at dksJ22_listFromTrustedArray_1 3 rfl rfl)
theorem dJ22_listFromTrustedArray_28 : decode cJ22_listFromTrustedArray 28 = .ok (.iconst 0, 1) := dk_3 (dk_at dksJ22_listFromTrustedArray_1 4 rfl rfl)
theorem dJ22_listFromTrustedArray_29 : decode cJ22_listFromTrustedArray 29 = .ok (.istore_n 3, 1) := dk_62 (dk_at dksJ22_listFromTrustedArray_1 5 rfl rfl)
theorem dJ22_listFromTrustedArray_30 : decode cJ22_listFromTrustedArray 30 = .ok (.iload_n 3, 1) := dk_29 (dk_at dksJ22_listFromTrustedArray_1 6 rfl rfl)
theorem dJ22_listFromTrustedArray_31 : decode cJ22_listFromTrustedArray 31 = .ok (.iload_n 2, 1) := dk_28 (dk_at dksJ22_listFromTrustedArray_1 7 rfl rfl)
theorem dJ22_listFromTrustedArray_32 : decode cJ22_listFromTrustedArray 32 = .ok (.if_icmp .ge 20, 3) := dk_162 0 20 (dk_at dksJ22_listFromTrustedArray_1 8 rfl rfl)
theorem dJ22_listFromTrustedArray_35 : decode cJ22_listFromTrustedArray 35 = .ok (.aload_n 1, 1) := dk_43 (dk_at dksJ22_listFromTrustedArray_1 11 rfl rfl)
theorem dJ22_listFromTrustedArray_36 : decode cJ22_listFromTrustedArray 36 = .ok (.iload_n 3, 1) := dk_29 (dk_at dksJ22_listFromTrustedArray_1 12 rfl rfl)
theorem dJ22_listFromTrustedArray_37 : decode cJ22_listFromTrustedArray 37 = .ok (.aaload, 1) := dk_50 (dk_at dksJ22_listFromTrustedArray_1 13 rfl rfl)
theorem dJ22_listFromTrustedArray_38 : decode cJ22_listFromTrustedArray 38 = .ok (.astore 4, 2) := dk_58 4 (dk_at dksJ22_listFromTrustedArray_1 14 rfl rfl)
theorem dJ22_listFromTrustedArray_40 : decode cJ22_listFromTrustedArray 40 = .ok (.aload 4, 2) := dk_25 4 (dk_at dksJ22_listFromTrustedArray_1 16 rfl rfl)
theorem dJ22_listFromTrustedArray_42 : decode cJ22_listFromTrustedArray 42 = .ok (.invokestatic 37, 3) := dk_184 0 37 (dk_at dksJ22_listFromTrustedArray_1 18 rfl rfl)
theorem dJ22_listFromTrustedArray_45 : decode cJ22_listFromTrustedArray 45 = .ok (.pop, 1) := dk_87 (dk_at dksJ22_listFromTrustedArray_1 21 rfl rfl)
theorem dJ22_listFromTrustedArray_46 : decode cJ22_listFromTrustedArray 46 = .ok (.iinc 3 1, 3) := dk_132 3 1 (dk_at dksJ22_listFromTrustedArray_2 0 rfl rfl)
theorem dJ22_listFromTrustedArray_49 : decode cJ22_listFromTrustedArray 49 = .ok (.goto (-19), 3) := dk_167 255 237 (dk_at dksJ22_listFromTrustedArray_2 3 rfl rfl)
theorem dJ22_listFromTrustedArray_52 : decode cJ22_listFromTrustedArray 52 = .ok (.aload_n 0, 1) := dk_42 (dk_at dksJ22_listFromTrustedArray_2 6 rfl rfl)
theorem dJ22_listFromTrustedArray_53 : decode cJ22_listFromTrustedArray 53 = .ok (.arraylength, 1) := dk_190 (dk_at dksJ22_listFromTrustedArray_2 7 rfl rfl)
theorem dJ22_listFromTrustedArray_54 : decode cJ22_listFromTrustedArray 54 = .ok (.tableswitch 61 0 2 #[26, 32, 45], 26) := by decide +kernel
theorem dJ22_listFromTrustedArray_80 : decode cJ22_listFromTrustedArray 80 = .ok (.getstatic 60, 3) := dk_178 0 60 (dk_at dksJ22_listFromTrustedArray_4 0 rfl rfl)
theorem dJ22_listFromTrustedArray_83 : decode cJ22_listFromTrustedArray 83 = .ok (.goto 41, 3) := dk_167 0 41 (dk_at dksJ22_listFromTrustedArray_4 3 rfl rfl)
theorem dJ22_listFromTrustedArray_86 : decode cJ22_listFromTrustedArray 86 = .ok (.new 10, 3) := dk_187 0 10 (dk_at dksJ22_listFromTrustedArray_4 6 rfl rfl)
theorem dJ22_listFromTrustedArray_89 : decode cJ22_listFromTrustedArray 89 = .ok (.dup, 1) := dk_89 (dk_at dksJ22_listFromTrustedArray_4 9 rfl rfl)
theorem dJ22_listFromTrustedArray_90 : decode cJ22_listFromTrustedArray 90 = .ok (.aload_n 0, 1) := dk_42 (dk_at dksJ22_listFromTrustedArray_4 10 rfl rfl)
theorem dJ22_listFromTrustedArray_91 : decode cJ22_listFromTrustedArray 91 = .ok (.iconst 0, 1) := dk_3 (dk_at dksJ22_listFromTrustedArray_4 11 rfl rfl)
theorem dJ22_listFromTrustedArray_92 : decode cJ22_listFromTrustedArray 92 = .ok (.aaload, 1) := dk_50 (dk_at dksJ22_listFromTrustedArray_4 12 rfl rfl)
theorem dJ22_listFromTrustedArray_93 : decode cJ22_listFromTrustedArray 93 = .ok (.invokespecial 64, 3) := dk_183 0 64 (dk_at dksJ22_listFromTrustedArray_4 13 rfl rfl)
theorem dJ22_listFromTrustedArray_96 : decode cJ22_listFromTrustedArray 96 = .ok (.goto 28, 3) := dk_167 0 28 (dk_at dksJ22_listFromTrustedArray_4 16 rfl rfl)
theorem dJ22_listFromTrustedArray_99 : decode cJ22_listFromTrustedArray 99 = .ok (.new 10, 3) := dk_187 0 10 (dk_at dksJ22_listFromTrustedArray_4 19 rfl rfl)
theorem dJ22_listFromTrustedArray_102 : decode cJ22_listFromTrustedArray 102 = .ok (.dup, 1) := dk_89 (dk_at dksJ22_listFromTrustedArray_4 22 rfl rfl)
theorem dJ22_listFromTrustedArray_103 : decode cJ22_listFromTrustedArray 103 = .ok (.aload_n 0, 1) := dk_42 (dk_at dksJ22_listFromTrustedArray_4 23 rfl rfl)
theorem dJ22_listFromTrustedArray_104 : decode cJ22_listFromTrustedArray 104 = .ok (.iconst 0, 1) := dk_3 (dk_at dksJ22_listFromTrustedArray_5 0 rfl rfl)
theorem dJ22_listFromTrustedArray_105 : decode cJ22_listFromTrustedArray 105 = .ok (.aaload, 1) := dk_50 (dk_at dksJ22_listFromTrustedArray_5 1 rfl rfl)
theorem dJ22_listFromTrustedArray_106 : decode cJ22_listFromTrustedArray 106 = .ok (.aload_n 0, 1) := dk_42 (dk_at dksJ22_listFromTrustedArray_5 2 rfl rfl)
theorem dJ22_listFromTrustedArray_107 : decode cJ22_listFromTrustedArray 107 = .ok (.iconst 1, 1) := dk_4 (dk_at dksJ22_listFromTrustedArray_5 3 rfl rfl)
theorem dJ22_listFromTrustedArray_108 : decode cJ22_listFromTrustedArray 108 = .ok (.aaload, 1) := dk_50 (dk_at dksJ22_listFromTrustedArray_5 4 rfl rfl)
theorem dJ22_listFromTrustedArray_109 : decode cJ22_listFromTrustedArray 109 = .ok (.invokespecial 67, 3) := dk_183 0 67 (dk_at dksJ22_listFromTrustedArray_5 5 rfl rfl)
theorem dJ22_listFromTrustedArray_112 : decode cJ22_listFromTrustedArray 112 = .ok (.goto 12, 3) := dk_167 0 12 (dk_at dksJ22_listFromTrustedArray_5 8 rfl rfl)
theorem dJ22_listFromTrustedArray_115 : decode cJ22_listFromTrustedArray 115 = .ok (.new 12, 3) := dk_187 0 12 (dk_at dksJ22_listFromTrustedArray_5 11 rfl rfl)
theorem dJ22_listFromTrustedArray_118 : decode cJ22_listFromTrustedArray 118 = .ok (.dup, 1) := dk_89 (dk_at dksJ22_listFromTrustedArray_5 14 rfl rfl)
theorem dJ22_listFromTrustedArray_119 : decode cJ22_listFromTrustedArray 119 = .ok (.aload_n 0, 1) := dk_42 (dk_at dksJ22_listFromTrustedArray_5 15 rfl rfl)
theorem dJ22_listFromTrustedArray_120 : decode cJ22_listFromTrustedArray 120 = .ok (.iconst 0, 1) := dk_3 (dk_at dksJ22_listFromTrustedArray_5 16 rfl rfl)
theorem dJ22_listFromTrustedArray_121 : decode cJ22_listFromTrustedArray 121 = .ok (.invokespecial 43, 3) := dk_183 0 43 (dk_at dksJ22_listFromTrustedArray_5 17 rfl rfl)
theorem dJ22_listFromTrustedArray_124 : decode cJ22_listFromTrustedArray 124 = .ok (.areturn, 1) := dk_176 (dk_at dksJ22_listFromTrustedArray_5 20 rfl rfl)

/-! decode rows: J23.java_util_LinkedList_Node.lean.txt -/
set_option maxRecDepth 100000
abbrev cJ23_init : ByteArray := prog_66_method_1_code
def yJ23_init : MethodName := ⟨RJ23, "<init>", "(Ljava/util/LinkedList$Node;Ljava/lang/Object;Ljava/util/LinkedList$Node;)V"⟩
def dkwJ23_init_0 : List UInt8 := [42, 183, 0, 1, 42, 44, 181, 0, 7, 42, 45, 181, 0, 13, 42, 43, 181, 0, 17, 177]
abbrev dktJ23_init_0 : List UInt8 := dkwJ23_init_0 ++ []
theorem dksJ23_init_0 : cJ23_init.data.toList.drop 0 = dktJ23_init_0 := by decide +kernel
theorem dJ23_init_0 : decode cJ23_init 0 = .ok (.aload_n 0, 1) := dk_42 (dk_at dksJ23_init_0 0 rfl rfl)
theorem dJ23_init_1 : decode cJ23_init 1 = .ok (.invokespecial 1, 3) := dk_183 0 1 (dk_at dksJ23_init_0 1 rfl rfl)
theorem dJ23_init_4 : decode cJ23_init 4 = .ok (.aload_n 0, 1) := dk_42 (dk_at dksJ23_init_0 4 rfl rfl)
theorem dJ23_init_5 : decode cJ23_init 5 = .ok (.aload_n 2, 1) := dk_44 (dk_at dksJ23_init_0 5 rfl rfl)
theorem dJ23_init_6 : decode cJ23_init 6 = .ok (.putfield 7, 3) := dk_181 0 7 (dk_at dksJ23_init_0 6 rfl rfl)
theorem dJ23_init_9 : decode cJ23_init 9 = .ok (.aload_n 0, 1) := dk_42 (dk_at dksJ23_init_0 9 rfl rfl)
theorem dJ23_init_10 : decode cJ23_init 10 = .ok (.aload_n 3, 1) := dk_45 (dk_at dksJ23_init_0 10 rfl rfl)
theorem dJ23_init_11 : decode cJ23_init 11 = .ok (.putfield 13, 3) := dk_181 0 13 (dk_at dksJ23_init_0 11 rfl rfl)
theorem dJ23_init_14 : decode cJ23_init 14 = .ok (.aload_n 0, 1) := dk_42 (dk_at dksJ23_init_0 14 rfl rfl)
theorem dJ23_init_15 : decode cJ23_init 15 = .ok (.aload_n 1, 1) := dk_43 (dk_at dksJ23_init_0 15 rfl rfl)
theorem dJ23_init_16 : decode cJ23_init 16 = .ok (.putfield 17, 3) := dk_181 0 17 (dk_at dksJ23_init_0 16 rfl rfl)
theorem dJ23_init_19 : decode cJ23_init 19 = .ok (.return_, 1) := dk_177 (dk_at dksJ23_init_0 19 rfl rfl)

/-! decode rows: J24.java_util_List.lean.txt -/
set_option maxRecDepth 100000
abbrev cJ24_of : ByteArray := prog_67_method_40_code
def yJ24_of : MethodName := ⟨RJ24, "of", "(Ljava/lang/Object;Ljava/lang/Object;Ljava/lang/Object;Ljava/lang/Object;)Ljava/util/List;"⟩
def dkwJ24_of_0 : List UInt8 := [7, 189, 0, 103, 89, 3, 42, 83, 89, 4, 43, 83, 89, 5, 44, 83, 89, 6, 45, 83, 184, 0, 105, 176]
abbrev dktJ24_of_0 : List UInt8 := dkwJ24_of_0 ++ []
theorem dksJ24_of_0 : cJ24_of.data.toList.drop 0 = dktJ24_of_0 := by decide +kernel
theorem dJ24_of_0 : decode cJ24_of 0 = .ok (.iconst 4, 1) := dk_7 (dk_at dksJ24_of_0 0 rfl rfl)
theorem dJ24_of_1 : decode cJ24_of 1 = .ok (.anewarray 103, 3) := dk_189 0 103 (dk_at dksJ24_of_0 1 rfl rfl)
theorem dJ24_of_4 : decode cJ24_of 4 = .ok (.dup, 1) := dk_89 (dk_at dksJ24_of_0 4 rfl rfl)
theorem dJ24_of_5 : decode cJ24_of 5 = .ok (.iconst 0, 1) := dk_3 (dk_at dksJ24_of_0 5 rfl rfl)
theorem dJ24_of_6 : decode cJ24_of 6 = .ok (.aload_n 0, 1) := dk_42 (dk_at dksJ24_of_0 6 rfl rfl)
theorem dJ24_of_7 : decode cJ24_of 7 = .ok (.aastore, 1) := dk_83 (dk_at dksJ24_of_0 7 rfl rfl)
theorem dJ24_of_8 : decode cJ24_of 8 = .ok (.dup, 1) := dk_89 (dk_at dksJ24_of_0 8 rfl rfl)
theorem dJ24_of_9 : decode cJ24_of 9 = .ok (.iconst 1, 1) := dk_4 (dk_at dksJ24_of_0 9 rfl rfl)
theorem dJ24_of_10 : decode cJ24_of 10 = .ok (.aload_n 1, 1) := dk_43 (dk_at dksJ24_of_0 10 rfl rfl)
theorem dJ24_of_11 : decode cJ24_of 11 = .ok (.aastore, 1) := dk_83 (dk_at dksJ24_of_0 11 rfl rfl)
theorem dJ24_of_12 : decode cJ24_of 12 = .ok (.dup, 1) := dk_89 (dk_at dksJ24_of_0 12 rfl rfl)
theorem dJ24_of_13 : decode cJ24_of 13 = .ok (.iconst 2, 1) := dk_5 (dk_at dksJ24_of_0 13 rfl rfl)
theorem dJ24_of_14 : decode cJ24_of 14 = .ok (.aload_n 2, 1) := dk_44 (dk_at dksJ24_of_0 14 rfl rfl)
theorem dJ24_of_15 : decode cJ24_of 15 = .ok (.aastore, 1) := dk_83 (dk_at dksJ24_of_0 15 rfl rfl)
theorem dJ24_of_16 : decode cJ24_of 16 = .ok (.dup, 1) := dk_89 (dk_at dksJ24_of_0 16 rfl rfl)
theorem dJ24_of_17 : decode cJ24_of 17 = .ok (.iconst 3, 1) := dk_6 (dk_at dksJ24_of_0 17 rfl rfl)
theorem dJ24_of_18 : decode cJ24_of 18 = .ok (.aload_n 3, 1) := dk_45 (dk_at dksJ24_of_0 18 rfl rfl)
theorem dJ24_of_19 : decode cJ24_of 19 = .ok (.aastore, 1) := dk_83 (dk_at dksJ24_of_0 19 rfl rfl)
theorem dJ24_of_20 : decode cJ24_of 20 = .ok (.invokestatic 105, 3) := dk_184 0 105 (dk_at dksJ24_of_0 20 rfl rfl)
theorem dJ24_of_23 : decode cJ24_of 23 = .ok (.areturn, 1) := dk_176 (dk_at dksJ24_of_0 23 rfl rfl)

/-! decode rows: J25.java_util_Objects.lean.txt -/
set_option maxRecDepth 100000
abbrev cJ25_requireNonNull : ByteArray := prog_70_method_10_code
def yJ25_requireNonNull : MethodName := ⟨RJ25, "requireNonNull", "(Ljava/lang/Object;)Ljava/lang/Object;"⟩
def dkwJ25_requireNonNull_0 : List UInt8 := [42, 199, 0, 11, 187, 0, 84, 89, 183, 0, 86, 191, 42, 176]
abbrev dktJ25_requireNonNull_0 : List UInt8 := dkwJ25_requireNonNull_0 ++ []
theorem dksJ25_requireNonNull_0 : cJ25_requireNonNull.data.toList.drop 0 = dktJ25_requireNonNull_0 := by decide +kernel
theorem dJ25_requireNonNull_0 : decode cJ25_requireNonNull 0 = .ok (.aload_n 0, 1) := dk_42 (dk_at dksJ25_requireNonNull_0 0 rfl rfl)
theorem dJ25_requireNonNull_1 : decode cJ25_requireNonNull 1 = .ok (.ifnonnull 11, 3) := dk_199 0 11 (dk_at dksJ25_requireNonNull_0 1 rfl rfl)
theorem dJ25_requireNonNull_4 : decode cJ25_requireNonNull 4 = .ok (.new 84, 3) := dk_187 0 84 (dk_at dksJ25_requireNonNull_0 4 rfl rfl)
theorem dJ25_requireNonNull_7 : decode cJ25_requireNonNull 7 = .ok (.dup, 1) := dk_89 (dk_at dksJ25_requireNonNull_0 7 rfl rfl)
theorem dJ25_requireNonNull_8 : decode cJ25_requireNonNull 8 = .ok (.invokespecial 86, 3) := dk_183 0 86 (dk_at dksJ25_requireNonNull_0 8 rfl rfl)
theorem dJ25_requireNonNull_11 : decode cJ25_requireNonNull 11 = .ok (.athrow, 1) := dk_191 (dk_at dksJ25_requireNonNull_0 11 rfl rfl)
theorem dJ25_requireNonNull_12 : decode cJ25_requireNonNull 12 = .ok (.aload_n 0, 1) := dk_42 (dk_at dksJ25_requireNonNull_0 12 rfl rfl)
theorem dJ25_requireNonNull_13 : decode cJ25_requireNonNull 13 = .ok (.areturn, 1) := dk_176 (dk_at dksJ25_requireNonNull_0 13 rfl rfl)
abbrev cJ25_equals : ByteArray := prog_70_method_2_code
def yJ25_equals : MethodName := ⟨RJ25, "equals", "(Ljava/lang/Object;Ljava/lang/Object;)Z"⟩
def dkwJ25_equals_0 : List UInt8 := [42, 43, 165, 0, 15, 42, 198, 0, 15, 42, 43, 182, 0, 14, 153, 0, 7, 4, 167, 0, 4, 3, 172]
abbrev dktJ25_equals_0 : List UInt8 := dkwJ25_equals_0 ++ []
theorem dksJ25_equals_0 : cJ25_equals.data.toList.drop 0 = dktJ25_equals_0 := by decide +kernel
theorem dJ25_equals_0 : decode cJ25_equals 0 = .ok (.aload_n 0, 1) := dk_42 (dk_at dksJ25_equals_0 0 rfl rfl)
theorem dJ25_equals_1 : decode cJ25_equals 1 = .ok (.aload_n 1, 1) := dk_43 (dk_at dksJ25_equals_0 1 rfl rfl)
theorem dJ25_equals_2 : decode cJ25_equals 2 = .ok (.if_acmp .eq 15, 3) := dk_165 0 15 (dk_at dksJ25_equals_0 2 rfl rfl)
theorem dJ25_equals_5 : decode cJ25_equals 5 = .ok (.aload_n 0, 1) := dk_42 (dk_at dksJ25_equals_0 5 rfl rfl)
theorem dJ25_equals_6 : decode cJ25_equals 6 = .ok (.ifnull 15, 3) := dk_198 0 15 (dk_at dksJ25_equals_0 6 rfl rfl)
theorem dJ25_equals_9 : decode cJ25_equals 9 = .ok (.aload_n 0, 1) := dk_42 (dk_at dksJ25_equals_0 9 rfl rfl)
theorem dJ25_equals_10 : decode cJ25_equals 10 = .ok (.aload_n 1, 1) := dk_43 (dk_at dksJ25_equals_0 10 rfl rfl)
theorem dJ25_equals_11 : decode cJ25_equals 11 = .ok (.invokevirtual 14, 3) := dk_182 0 14 (dk_at dksJ25_equals_0 11 rfl rfl)
theorem dJ25_equals_14 : decode cJ25_equals 14 = .ok (.ifCond .eq 7, 3) := dk_153 0 7 (dk_at dksJ25_equals_0 14 rfl rfl)
theorem dJ25_equals_17 : decode cJ25_equals 17 = .ok (.iconst 1, 1) := dk_4 (dk_at dksJ25_equals_0 17 rfl rfl)
theorem dJ25_equals_18 : decode cJ25_equals 18 = .ok (.goto 4, 3) := dk_167 0 4 (dk_at dksJ25_equals_0 18 rfl rfl)
theorem dJ25_equals_21 : decode cJ25_equals 21 = .ok (.iconst 0, 1) := dk_3 (dk_at dksJ25_equals_0 21 rfl rfl)
theorem dJ25_equals_22 : decode cJ25_equals 22 = .ok (.ireturn, 1) := dk_172 (dk_at dksJ25_equals_0 22 rfl rfl)
abbrev cJ25_checkIndex : ByteArray := prog_70_method_17_code
def yJ25_checkIndex : MethodName := ⟨RJ25, "checkIndex", "(II)I"⟩
def dkwJ25_checkIndex_0 : List UInt8 := [26, 27, 1, 184, 0, 105, 172]
abbrev dktJ25_checkIndex_0 : List UInt8 := dkwJ25_checkIndex_0 ++ []
theorem dksJ25_checkIndex_0 : cJ25_checkIndex.data.toList.drop 0 = dktJ25_checkIndex_0 := by decide +kernel
theorem dJ25_checkIndex_0 : decode cJ25_checkIndex 0 = .ok (.iload_n 0, 1) := dk_26 (dk_at dksJ25_checkIndex_0 0 rfl rfl)
theorem dJ25_checkIndex_1 : decode cJ25_checkIndex 1 = .ok (.iload_n 1, 1) := dk_27 (dk_at dksJ25_checkIndex_0 1 rfl rfl)
theorem dJ25_checkIndex_2 : decode cJ25_checkIndex 2 = .ok (.aconst_null, 1) := dk_1 (dk_at dksJ25_checkIndex_0 2 rfl rfl)
theorem dJ25_checkIndex_3 : decode cJ25_checkIndex 3 = .ok (.invokestatic 105, 3) := dk_184 0 105 (dk_at dksJ25_checkIndex_0 3 rfl rfl)
theorem dJ25_checkIndex_6 : decode cJ25_checkIndex 6 = .ok (.ireturn, 1) := dk_172 (dk_at dksJ25_checkIndex_0 6 rfl rfl)

/-! decode rows: J26.java_util_ImmutableCollections_AbstractImmutableCollection.lean.txt -/
set_option maxRecDepth 100000
abbrev cJ26_add : ByteArray := prog_58_method_2_code
def yJ26_add : MethodName := ⟨RJ26, "add", "(Ljava/lang/Object;)Z"⟩
theorem dJ26_add_0 : decode cJ26_add 0 = .ok (.invokestatic 7, 3) := by decide +kernel
theorem dJ26_add_3 : decode cJ26_add 3 = .ok (.athrow, 1) := by decide +kernel
abbrev cJ26_init : ByteArray := prog_58_method_1_code
def yJ26_init : MethodName := ⟨RJ26, "<init>", "()V"⟩
theorem dJ26_init_0 : decode cJ26_init 0 = .ok (.aload_n 0, 1) := by decide +kernel
theorem dJ26_init_1 : decode cJ26_init 1 = .ok (.invokespecial 1, 3) := by decide +kernel
theorem dJ26_init_4 : decode cJ26_init 4 = .ok (.return_, 1) := by decide +kernel

/-! decode rows: J27.java_util_ImmutableCollections_AbstractImmutableList.lean.txt -/
set_option maxRecDepth 100000
abbrev cJ27_init : ByteArray := prog_59_method_1_code
def yJ27_init : MethodName := ⟨RJ27, "<init>", "()V"⟩
theorem dJ27_init_0 : decode cJ27_init 0 = .ok (.aload_n 0, 1) := by decide +kernel
theorem dJ27_init_1 : decode cJ27_init 1 = .ok (.invokespecial 1, 3) := by decide +kernel
theorem dJ27_init_4 : decode cJ27_init 4 = .ok (.return_, 1) := by decide +kernel
abbrev cJ27_contains : ByteArray := prog_59_method_15_code
def yJ27_contains : MethodName := ⟨RJ27, "contains", "(Ljava/lang/Object;)Z"⟩
def dkwJ27_contains_0 : List UInt8 := [42, 43, 182, 0, 107, 155, 0, 7, 4, 167, 0, 4, 3, 172]
abbrev dktJ27_contains_0 : List UInt8 := dkwJ27_contains_0 ++ []
theorem dksJ27_contains_0 : cJ27_contains.data.toList.drop 0 = dktJ27_contains_0 := by decide +kernel
theorem dJ27_contains_0 : decode cJ27_contains 0 = .ok (.aload_n 0, 1) := dk_42 (dk_at dksJ27_contains_0 0 rfl rfl)
theorem dJ27_contains_1 : decode cJ27_contains 1 = .ok (.aload_n 1, 1) := dk_43 (dk_at dksJ27_contains_0 1 rfl rfl)
theorem dJ27_contains_2 : decode cJ27_contains 2 = .ok (.invokevirtual 107, 3) := dk_182 0 107 (dk_at dksJ27_contains_0 2 rfl rfl)
theorem dJ27_contains_5 : decode cJ27_contains 5 = .ok (.ifCond .lt 7, 3) := dk_155 0 7 (dk_at dksJ27_contains_0 5 rfl rfl)
theorem dJ27_contains_8 : decode cJ27_contains 8 = .ok (.iconst 1, 1) := dk_4 (dk_at dksJ27_contains_0 8 rfl rfl)
theorem dJ27_contains_9 : decode cJ27_contains 9 = .ok (.goto 4, 3) := dk_167 0 4 (dk_at dksJ27_contains_0 9 rfl rfl)
theorem dJ27_contains_12 : decode cJ27_contains 12 = .ok (.iconst 0, 1) := dk_3 (dk_at dksJ27_contains_0 12 rfl rfl)
theorem dJ27_contains_13 : decode cJ27_contains 13 = .ok (.ireturn, 1) := dk_172 (dk_at dksJ27_contains_0 13 rfl rfl)
abbrev cJ27_outOfBounds : ByteArray := prog_59_method_17_code
def yJ27_outOfBounds : MethodName := ⟨RJ27, "outOfBounds", "(I)Ljava/lang/IndexOutOfBoundsException;"⟩
def dkwJ27_outOfBounds_1 : List UInt8 := [182, 0, 36, 42, 182, 0, 13, 182, 0, 40, 182, 0, 43, 183, 0, 47, 176]
abbrev dktJ27_outOfBounds_1 : List UInt8 := dkwJ27_outOfBounds_1 ++ []
def dkwJ27_outOfBounds_0 : List UInt8 := [187, 0, 29, 89, 187, 0, 31, 89, 183, 0, 33, 18, 116, 182, 0, 36, 27, 182, 0, 40, 18, 118]
abbrev dktJ27_outOfBounds_0 : List UInt8 := dkwJ27_outOfBounds_0 ++ dktJ27_outOfBounds_1
theorem dksJ27_outOfBounds_0 : cJ27_outOfBounds.data.toList.drop 0 = dktJ27_outOfBounds_0 := by decide +kernel
theorem dksJ27_outOfBounds_1 : cJ27_outOfBounds.data.toList.drop 22 = dktJ27_outOfBounds_1 := dk_seg dksJ27_outOfBounds_0 22 rfl rfl
theorem dJ27_outOfBounds_0 : decode cJ27_outOfBounds 0 = .ok (.new 29, 3) := dk_187 0 29 (dk_at dksJ27_outOfBounds_0 0 rfl rfl)
theorem dJ27_outOfBounds_3 : decode cJ27_outOfBounds 3 = .ok (.dup, 1) := dk_89 (dk_at dksJ27_outOfBounds_0 3 rfl rfl)
theorem dJ27_outOfBounds_4 : decode cJ27_outOfBounds 4 = .ok (.new 31, 3) := dk_187 0 31 (dk_at dksJ27_outOfBounds_0 4 rfl rfl)
theorem dJ27_outOfBounds_7 : decode cJ27_outOfBounds 7 = .ok (.dup, 1) := dk_89 (dk_at dksJ27_outOfBounds_0 7 rfl rfl)
theorem dJ27_outOfBounds_8 : decode cJ27_outOfBounds 8 = .ok (.invokespecial 33, 3) := dk_183 0 33 (dk_at dksJ27_outOfBounds_0 8 rfl rfl)
theorem dJ27_outOfBounds_11 : decode cJ27_outOfBounds 11 = .ok (.ldc 116, 2) := dk_18 116 (dk_at dksJ27_outOfBounds_0 11 rfl rfl)
theorem dJ27_outOfBounds_13 : decode cJ27_outOfBounds 13 = .ok (.invokevirtual 36, 3) := dk_182 0 36 (dk_at dksJ27_outOfBounds_0 13 rfl rfl)
theorem dJ27_outOfBounds_16 : decode cJ27_outOfBounds 16 = .ok (.iload_n 1, 1) := dk_27 (dk_at dksJ27_outOfBounds_0 16 rfl rfl)
theorem dJ27_outOfBounds_17 : decode cJ27_outOfBounds 17 = .ok (.invokevirtual 40, 3) := dk_182 0 40 (dk_at dksJ27_outOfBounds_0 17 rfl rfl)
theorem dJ27_outOfBounds_20 : decode cJ27_outOfBounds 20 = .ok (.ldc 118, 2) := dk_18 118 (dk_at dksJ27_outOfBounds_0 20 rfl rfl)
theorem dJ27_outOfBounds_22 : decode cJ27_outOfBounds 22 = .ok (.invokevirtual 36, 3) := dk_182 0 36 (dk_at dksJ27_outOfBounds_1 0 rfl rfl)
theorem dJ27_outOfBounds_25 : decode cJ27_outOfBounds 25 = .ok (.aload_n 0, 1) := dk_42 (dk_at dksJ27_outOfBounds_1 3 rfl rfl)
theorem dJ27_outOfBounds_26 : decode cJ27_outOfBounds 26 = .ok (.invokevirtual 13, 3) := dk_182 0 13 (dk_at dksJ27_outOfBounds_1 4 rfl rfl)
theorem dJ27_outOfBounds_29 : decode cJ27_outOfBounds 29 = .ok (.invokevirtual 40, 3) := dk_182 0 40 (dk_at dksJ27_outOfBounds_1 7 rfl rfl)
theorem dJ27_outOfBounds_32 : decode cJ27_outOfBounds 32 = .ok (.invokevirtual 43, 3) := dk_182 0 43 (dk_at dksJ27_outOfBounds_1 10 rfl rfl)
theorem dJ27_outOfBounds_35 : decode cJ27_outOfBounds 35 = .ok (.invokespecial 47, 3) := dk_183 0 47 (dk_at dksJ27_outOfBounds_1 13 rfl rfl)
theorem dJ27_outOfBounds_38 : decode cJ27_outOfBounds 38 = .ok (.areturn, 1) := dk_176 (dk_at dksJ27_outOfBounds_1 16 rfl rfl)

