/-! decode rows: J5.java_lang_StringUTF16.lean.txt -/
set_option maxRecDepth 100000
abbrev cJ5_newBytesFor : ByteArray := prog_38_method_2_code
def yJ5_newBytesFor : MethodName := ⟨RJ5, "newBytesFor", "(I)[B"⟩
def dkwJ5_newBytesFor_0 : List UInt8 := [26, 184, 0, 11, 188, 8, 176]
abbrev dktJ5_newBytesFor_0 : List UInt8 := dkwJ5_newBytesFor_0 ++ []
theorem dksJ5_newBytesFor_0 : cJ5_newBytesFor.data.toList.drop 0 = dktJ5_newBytesFor_0 := by decide +kernel
theorem dJ5_newBytesFor_0 : decode cJ5_newBytesFor 0 = .ok (.iload_n 0, 1) := dk_26 (dk_at dksJ5_newBytesFor_0 0 rfl rfl)
theorem dJ5_newBytesFor_1 : decode cJ5_newBytesFor 1 = .ok (.invokestatic 11, 3) := dk_184 0 11 (dk_at dksJ5_newBytesFor_0 1 rfl rfl)
theorem dJ5_newBytesFor_4 : decode cJ5_newBytesFor 4 = .ok (.newarray .byte, 2) := dk_188_8 (dk_at dksJ5_newBytesFor_0 4 rfl rfl)
theorem dJ5_newBytesFor_6 : decode cJ5_newBytesFor 6 = .ok (.areturn, 1) := dk_176 (dk_at dksJ5_newBytesFor_0 6 rfl rfl)
abbrev cJ5_newBytesLength : ByteArray := prog_38_method_3_code
def yJ5_newBytesLength : MethodName := ⟨RJ5, "newBytesLength", "(I)I"⟩
def dkwJ5_newBytesLength_2 : List UInt8 := [182, 0, 32, 182, 0, 37, 183, 0, 41, 191, 26, 4, 120, 172]
abbrev dktJ5_newBytesLength_2 : List UInt8 := dkwJ5_newBytesLength_2 ++ []
def dkwJ5_newBytesLength_1 : List UInt8 := [187, 0, 23, 89, 183, 0, 25, 18, 26, 182, 0, 28, 26, 182, 0, 32, 18, 35, 182, 0, 28, 18, 20]
abbrev dktJ5_newBytesLength_1 : List UInt8 := dkwJ5_newBytesLength_1 ++ dktJ5_newBytesLength_2
def dkwJ5_newBytesLength_0 : List UInt8 := [26, 156, 0, 11, 187, 0, 17, 89, 183, 0, 19, 191, 26, 18, 20, 161, 0, 40, 187, 0, 21, 89]
abbrev dktJ5_newBytesLength_0 : List UInt8 := dkwJ5_newBytesLength_0 ++ dktJ5_newBytesLength_1
theorem dksJ5_newBytesLength_0 : cJ5_newBytesLength.data.toList.drop 0 = dktJ5_newBytesLength_0 := by decide +kernel
theorem dksJ5_newBytesLength_1 : cJ5_newBytesLength.data.toList.drop 22 = dktJ5_newBytesLength_1 := dk_seg dksJ5_newBytesLength_0 22 rfl rfl
theorem dksJ5_newBytesLength_2 : cJ5_newBytesLength.data.toList.drop 45 = dktJ5_newBytesLength_2 := dk_seg dksJ5_newBytesLength_1 23 rfl rfl
theorem dJ5_newBytesLength_0 : decode cJ5_newBytesLength 0 = .ok (.iload_n 0, 1) := dk_26 (dk_at dksJ5_newBytesLength_0 0 rfl rfl)
theorem dJ5_newBytesLength_1 : decode cJ5_newBytesLength 1 = .ok (.ifCond .ge 11, 3) := dk_156 0 11 (dk_at dksJ5_newBytesLength_0 1 rfl rfl)
theorem dJ5_newBytesLength_4 : decode cJ5_newBytesLength 4 = .ok (.new 17, 3) := dk_187 0 17 (dk_at dksJ5_newBytesLength_0 4 rfl rfl)
theorem dJ5_newBytesLength_7 : decode cJ5_newBytesLength 7 = .ok (.dup, 1) := dk_89 (dk_at dksJ5_newBytesLength_0 7 rfl rfl)
theorem dJ5_newBytesLength_8 : decode cJ5_newBytesLength 8 = .ok (.invokespecial 19, 3) := dk_183 0 19 (dk_at dksJ5_newBytesLength_0 8 rfl rfl)
theorem dJ5_newBytesLength_11 : decode cJ5_newBytesLength 11 = .ok (.athrow, 1) := dk_191 (dk_at dksJ5_newBytesLength_0 11 rfl rfl)
theorem dJ5_newBytesLength_12 : decode cJ5_newBytesLength 12 = .ok (.iload_n 0, 1) := dk_26 (dk_at dksJ5_newBytesLength_0 12 rfl rfl)
theorem dJ5_newBytesLength_13 : decode cJ5_newBytesLength 13 = .ok (.ldc 20, 2) := dk_18 20 (dk_at dksJ5_newBytesLength_0 13 rfl rfl)
theorem dJ5_newBytesLength_15 : decode cJ5_newBytesLength 15 = .ok (.if_icmp .lt 40, 3) := dk_161 0 40 (dk_at dksJ5_newBytesLength_0 15 rfl rfl)
theorem dJ5_newBytesLength_18 : decode cJ5_newBytesLength 18 = .ok (.new 21, 3) := dk_187 0 21 (dk_at dksJ5_newBytesLength_0 18 rfl rfl)
theorem dJ5_newBytesLength_21 : decode cJ5_newBytesLength 21 = .ok (.dup, 1) := dk_89 (dk_at dksJ5_newBytesLength_0 21 rfl rfl)
theorem dJ5_newBytesLength_22 : decode cJ5_newBytesLength 22 = .ok (.new 23, 3) := dk_187 0 23 (dk_at dksJ5_newBytesLength_1 0 rfl rfl)
theorem dJ5_newBytesLength_25 : decode cJ5_newBytesLength 25 = .ok (.dup, 1) := dk_89 (dk_at dksJ5_newBytesLength_1 3 rfl rfl)
theorem dJ5_newBytesLength_26 : decode cJ5_newBytesLength 26 = .ok (.invokespecial 25, 3) := dk_183 0 25 (dk_at dksJ5_newBytesLength_1 4 rfl rfl)
theorem dJ5_newBytesLength_29 : decode cJ5_newBytesLength 29 = .ok (.ldc 26, 2) := dk_18 26 (dk_at dksJ5_newBytesLength_1 7 rfl rfl)
theorem dJ5_newBytesLength_31 : decode cJ5_newBytesLength 31 = .ok (.invokevirtual 28, 3) := dk_182 0 28 (dk_at dksJ5_newBytesLength_1 9 rfl rfl)
theorem dJ5_newBytesLength_34 : decode cJ5_newBytesLength 34 = .ok (.iload_n 0, 1) := dk_26 (dk_at dksJ5_newBytesLength_1 12 rfl rfl)
theorem dJ5_newBytesLength_35 : decode cJ5_newBytesLength 35 = .ok (.invokevirtual 32, 3) := dk_182 0 32 (dk_at dksJ5_newBytesLength_1 13 rfl rfl)
theorem dJ5_newBytesLength_38 : decode cJ5_newBytesLength 38 = .ok (.ldc 35, 2) := dk_18 35 (dk_at dksJ5_newBytesLength_1 16 rfl rfl)
theorem dJ5_newBytesLength_40 : decode cJ5_newBytesLength 40 = .ok (.invokevirtual 28, 3) := dk_182 0 28 (dk_at dksJ5_newBytesLength_1 18 rfl rfl)
theorem dJ5_newBytesLength_43 : decode cJ5_newBytesLength 43 = .ok (.ldc 20, 2) := dk_18 20 (dk_at dksJ5_newBytesLength_1 21 rfl rfl)
theorem dJ5_newBytesLength_45 : decode cJ5_newBytesLength 45 = .ok (.invokevirtual 32, 3) := dk_182 0 32 (dk_at dksJ5_newBytesLength_2 0 rfl rfl)
theorem dJ5_newBytesLength_48 : decode cJ5_newBytesLength 48 = .ok (.invokevirtual 37, 3) := dk_182 0 37 (dk_at dksJ5_newBytesLength_2 3 rfl rfl)
theorem dJ5_newBytesLength_51 : decode cJ5_newBytesLength 51 = .ok (.invokespecial 41, 3) := dk_183 0 41 (dk_at dksJ5_newBytesLength_2 6 rfl rfl)
theorem dJ5_newBytesLength_54 : decode cJ5_newBytesLength 54 = .ok (.athrow, 1) := dk_191 (dk_at dksJ5_newBytesLength_2 9 rfl rfl)
theorem dJ5_newBytesLength_55 : decode cJ5_newBytesLength 55 = .ok (.iload_n 0, 1) := dk_26 (dk_at dksJ5_newBytesLength_2 10 rfl rfl)
theorem dJ5_newBytesLength_56 : decode cJ5_newBytesLength 56 = .ok (.iconst 1, 1) := dk_4 (dk_at dksJ5_newBytesLength_2 11 rfl rfl)
theorem dJ5_newBytesLength_57 : decode cJ5_newBytesLength 57 = .ok (.ishl, 1) := dk_120 (dk_at dksJ5_newBytesLength_2 12 rfl rfl)
theorem dJ5_newBytesLength_58 : decode cJ5_newBytesLength 58 = .ok (.ireturn, 1) := dk_172 (dk_at dksJ5_newBytesLength_2 13 rfl rfl)
abbrev cJ5_putCharsAt : ByteArray := prog_38_method_81_code
def yJ5_putCharsAt : MethodName := ⟨RJ5, "putCharsAt", "([BICCCC)I"⟩
def dkwJ5_putCharsAt_3 : List UInt8 := [21, 6, 172]
abbrev dktJ5_putCharsAt_3 : List UInt8 := dkwJ5_putCharsAt_3 ++ []
def dkwJ5_putCharsAt_2 : List UInt8 := [184, 0, 111, 178, 0, 44, 154, 0, 17, 27, 21, 6, 159, 0, 11, 187, 0, 52, 89, 183, 0, 66, 191]
abbrev dktJ5_putCharsAt_2 : List UInt8 := dkwJ5_putCharsAt_2 ++ dktJ5_putCharsAt_3
def dkwJ5_putCharsAt_1 : List UInt8 := [132, 1, 1, 29, 184, 0, 111, 42, 27, 132, 1, 1, 21, 4, 184, 0, 111, 42, 27, 132, 1, 1, 21, 5]
abbrev dktJ5_putCharsAt_1 : List UInt8 := dkwJ5_putCharsAt_1 ++ dktJ5_putCharsAt_2
def dkwJ5_putCharsAt_0 : List UInt8 := [27, 7, 96, 54, 6, 27, 21, 6, 42, 184, 0, 96, 42, 27, 132, 1, 1, 28, 184, 0, 111, 42, 27]
abbrev dktJ5_putCharsAt_0 : List UInt8 := dkwJ5_putCharsAt_0 ++ dktJ5_putCharsAt_1
theorem dksJ5_putCharsAt_0 : cJ5_putCharsAt.data.toList.drop 0 = dktJ5_putCharsAt_0 := by decide +kernel
theorem dksJ5_putCharsAt_1 : cJ5_putCharsAt.data.toList.drop 23 = dktJ5_putCharsAt_1 := dk_seg dksJ5_putCharsAt_0 23 rfl rfl
theorem dksJ5_putCharsAt_2 : cJ5_putCharsAt.data.toList.drop 47 = dktJ5_putCharsAt_2 := dk_seg dksJ5_putCharsAt_1 24 rfl rfl
theorem dksJ5_putCharsAt_3 : cJ5_putCharsAt.data.toList.drop 70 = dktJ5_putCharsAt_3 := dk_seg dksJ5_putCharsAt_2 23 rfl rfl
theorem dJ5_putCharsAt_0 : decode cJ5_putCharsAt 0 = .ok (.iload_n 1, 1) := dk_27 (dk_at dksJ5_putCharsAt_0 0 rfl rfl)
theorem dJ5_putCharsAt_1 : decode cJ5_putCharsAt 1 = .ok (.iconst 4, 1) := dk_7 (dk_at dksJ5_putCharsAt_0 1 rfl rfl)
theorem dJ5_putCharsAt_2 : decode cJ5_putCharsAt 2 = .ok (.iadd, 1) := dk_96 (dk_at dksJ5_putCharsAt_0 2 rfl rfl)
theorem dJ5_putCharsAt_3 : decode cJ5_putCharsAt 3 = .ok (.istore 6, 2) := dk_54 6 (dk_at dksJ5_putCharsAt_0 3 rfl rfl)
theorem dJ5_putCharsAt_5 : decode cJ5_putCharsAt 5 = .ok (.iload_n 1, 1) := dk_27 (dk_at dksJ5_putCharsAt_0 5 rfl rfl)
theorem dJ5_putCharsAt_6 : decode cJ5_putCharsAt 6 = .ok (.iload 6, 2) := dk_21 6 (dk_at dksJ5_putCharsAt_0 6 rfl rfl)
theorem dJ5_putCharsAt_8 : decode cJ5_putCharsAt 8 = .ok (.aload_n 0, 1) := dk_42 (dk_at dksJ5_putCharsAt_0 8 rfl rfl)
theorem dJ5_putCharsAt_9 : decode cJ5_putCharsAt 9 = .ok (.invokestatic 96, 3) := dk_184 0 96 (dk_at dksJ5_putCharsAt_0 9 rfl rfl)
theorem dJ5_putCharsAt_12 : decode cJ5_putCharsAt 12 = .ok (.aload_n 0, 1) := dk_42 (dk_at dksJ5_putCharsAt_0 12 rfl rfl)
theorem dJ5_putCharsAt_13 : decode cJ5_putCharsAt 13 = .ok (.iload_n 1, 1) := dk_27 (dk_at dksJ5_putCharsAt_0 13 rfl rfl)
theorem dJ5_putCharsAt_14 : decode cJ5_putCharsAt 14 = .ok (.iinc 1 1, 3) := dk_132 1 1 (dk_at dksJ5_putCharsAt_0 14 rfl rfl)
theorem dJ5_putCharsAt_17 : decode cJ5_putCharsAt 17 = .ok (.iload_n 2, 1) := dk_28 (dk_at dksJ5_putCharsAt_0 17 rfl rfl)
theorem dJ5_putCharsAt_18 : decode cJ5_putCharsAt 18 = .ok (.invokestatic 111, 3) := dk_184 0 111 (dk_at dksJ5_putCharsAt_0 18 rfl rfl)
theorem dJ5_putCharsAt_21 : decode cJ5_putCharsAt 21 = .ok (.aload_n 0, 1) := dk_42 (dk_at dksJ5_putCharsAt_0 21 rfl rfl)
theorem dJ5_putCharsAt_22 : decode cJ5_putCharsAt 22 = .ok (.iload_n 1, 1) := dk_27 (dk_at dksJ5_putCharsAt_0 22 rfl rfl)
theorem dJ5_putCharsAt_23 : decode cJ5_putCharsAt 23 = .ok (.iinc 1 1, 3) := dk_132 1 1 (dk_at dksJ5_putCharsAt_1 0 rfl rfl)
theorem dJ5_putCharsAt_26 : decode cJ5_putCharsAt 26 = .ok (.iload_n 3, 1) := dk_29 (dk_at dksJ5_putCharsAt_1 3 rfl rfl)
theorem dJ5_putCharsAt_27 : decode cJ5_putCharsAt 27 = .ok (.invokestatic 111, 3) := dk_184 0 111 (dk_at dksJ5_putCharsAt_1 4 rfl rfl)
theorem dJ5_putCharsAt_30 : decode cJ5_putCharsAt 30 = .ok (.aload_n 0, 1) := dk_42 (dk_at dksJ5_putCharsAt_1 7 rfl rfl)
theorem dJ5_putCharsAt_31 : decode cJ5_putCharsAt 31 = .ok (.iload_n 1, 1) := dk_27 (dk_at dksJ5_putCharsAt_1 8 rfl rfl)
theorem dJ5_putCharsAt_32 : decode cJ5_putCharsAt 32 = .ok (.iinc 1 1, 3) := dk_132 1 1 (dk_at dksJ5_putCharsAt_1 9 rfl rfl)
theorem dJ5_putCharsAt_35 : decode cJ5_putCharsAt 35 = .ok (.iload 4, 2) := dk_21 4 (dk_at dksJ5_putCharsAt_1 12 rfl rfl)
theorem dJ5_putCharsAt_37 : decode cJ5_putCharsAt 37 = .ok (.invokestatic 111, 3) := dk_184 0 111 (dk_at dksJ5_putCharsAt_1 14 rfl rfl)
theorem dJ5_putCharsAt_40 : decode cJ5_putCharsAt 40 = .ok (.aload_n 0, 1) := dk_42 (dk_at dksJ5_putCharsAt_1 17 rfl rfl)
theorem dJ5_putCharsAt_41 : decode cJ5_putCharsAt 41 = .ok (.iload_n 1, 1) := dk_27 (dk_at dksJ5_putCharsAt_1 18 rfl rfl)
theorem dJ5_putCharsAt_42 : decode cJ5_putCharsAt 42 = .ok (.iinc 1 1, 3) := dk_132 1 1 (dk_at dksJ5_putCharsAt_1 19 rfl rfl)
theorem dJ5_putCharsAt_45 : decode cJ5_putCharsAt 45 = .ok (.iload 5, 2) := dk_21 5 (dk_at dksJ5_putCharsAt_1 22 rfl rfl)
theorem dJ5_putCharsAt_47 : decode cJ5_putCharsAt 47 = .ok (.invokestatic 111, 3) := dk_184 0 111 (dk_at dksJ5_putCharsAt_2 0 rfl rfl)
theorem dJ5_putCharsAt_50 : decode cJ5_putCharsAt 50 = .ok (.getstatic 44, 3) := dk_178 0 44 (dk_at dksJ5_putCharsAt_2 3 rfl rfl)
theorem dJ5_putCharsAt_53 : decode cJ5_putCharsAt 53 = .ok (.ifCond .ne 17, 3) := dk_154 0 17 (dk_at dksJ5_putCharsAt_2 6 rfl rfl)
theorem dJ5_putCharsAt_56 : decode cJ5_putCharsAt 56 = .ok (.iload_n 1, 1) := dk_27 (dk_at dksJ5_putCharsAt_2 9 rfl rfl)
theorem dJ5_putCharsAt_57 : decode cJ5_putCharsAt 57 = .ok (.iload 6, 2) := dk_21 6 (dk_at dksJ5_putCharsAt_2 10 rfl rfl)
theorem dJ5_putCharsAt_59 : decode cJ5_putCharsAt 59 = .ok (.if_icmp .eq 11, 3) := dk_159 0 11 (dk_at dksJ5_putCharsAt_2 12 rfl rfl)
theorem dJ5_putCharsAt_62 : decode cJ5_putCharsAt 62 = .ok (.new 52, 3) := dk_187 0 52 (dk_at dksJ5_putCharsAt_2 15 rfl rfl)
theorem dJ5_putCharsAt_65 : decode cJ5_putCharsAt 65 = .ok (.dup, 1) := dk_89 (dk_at dksJ5_putCharsAt_2 18 rfl rfl)
theorem dJ5_putCharsAt_66 : decode cJ5_putCharsAt 66 = .ok (.invokespecial 66, 3) := dk_183 0 66 (dk_at dksJ5_putCharsAt_2 19 rfl rfl)
theorem dJ5_putCharsAt_69 : decode cJ5_putCharsAt 69 = .ok (.athrow, 1) := dk_191 (dk_at dksJ5_putCharsAt_2 22 rfl rfl)
theorem dJ5_putCharsAt_70 : decode cJ5_putCharsAt 70 = .ok (.iload 6, 2) := dk_21 6 (dk_at dksJ5_putCharsAt_3 0 rfl rfl)
theorem dJ5_putCharsAt_72 : decode cJ5_putCharsAt 72 = .ok (.ireturn, 1) := dk_172 (dk_at dksJ5_putCharsAt_3 2 rfl rfl)
abbrev cJ5_checkBoundsBeginEnd : ByteArray := prog_38_method_93_code
def yJ5_checkBoundsBeginEnd : MethodName := ⟨RJ5, "checkBoundsBeginEnd", "(II[B)V"⟩
def dkwJ5_checkBoundsBeginEnd_0 : List UInt8 := [26, 27, 44, 184, 0, 48, 184, 0, 241, 177]
abbrev dktJ5_checkBoundsBeginEnd_0 : List UInt8 := dkwJ5_checkBoundsBeginEnd_0 ++ []
theorem dksJ5_checkBoundsBeginEnd_0 : cJ5_checkBoundsBeginEnd.data.toList.drop 0 = dktJ5_checkBoundsBeginEnd_0 := by decide +kernel
theorem dJ5_checkBoundsBeginEnd_0 : decode cJ5_checkBoundsBeginEnd 0 = .ok (.iload_n 0, 1) := dk_26 (dk_at dksJ5_checkBoundsBeginEnd_0 0 rfl rfl)
theorem dJ5_checkBoundsBeginEnd_1 : decode cJ5_checkBoundsBeginEnd 1 = .ok (.iload_n 1, 1) := dk_27 (dk_at dksJ5_checkBoundsBeginEnd_0 1 rfl rfl)
theorem dJ5_checkBoundsBeginEnd_2 : decode cJ5_checkBoundsBeginEnd 2 = .ok (.aload_n 2, 1) := dk_44 (dk_at dksJ5_checkBoundsBeginEnd_0 2 rfl rfl)
theorem dJ5_checkBoundsBeginEnd_3 : decode cJ5_checkBoundsBeginEnd 3 = .ok (.invokestatic 48, 3) := dk_184 0 48 (dk_at dksJ5_checkBoundsBeginEnd_0 3 rfl rfl)
theorem dJ5_checkBoundsBeginEnd_6 : decode cJ5_checkBoundsBeginEnd 6 = .ok (.invokestatic 241, 3) := dk_184 0 241 (dk_at dksJ5_checkBoundsBeginEnd_0 6 rfl rfl)
theorem dJ5_checkBoundsBeginEnd_9 : decode cJ5_checkBoundsBeginEnd 9 = .ok (.return_, 1) := dk_177 (dk_at dksJ5_checkBoundsBeginEnd_0 9 rfl rfl)
abbrev cJ5_length : ByteArray := prog_38_method_6_code
def yJ5_length : MethodName := ⟨RJ5, "length", "([B)I"⟩
def dkwJ5_length_0 : List UInt8 := [42, 190, 4, 122, 172]
abbrev dktJ5_length_0 : List UInt8 := dkwJ5_length_0 ++ []
theorem dksJ5_length_0 : cJ5_length.data.toList.drop 0 = dktJ5_length_0 := by decide +kernel
theorem dJ5_length_0 : decode cJ5_length 0 = .ok (.aload_n 0, 1) := dk_42 (dk_at dksJ5_length_0 0 rfl rfl)
theorem dJ5_length_1 : decode cJ5_length 1 = .ok (.arraylength, 1) := dk_190 (dk_at dksJ5_length_0 1 rfl rfl)
theorem dJ5_length_2 : decode cJ5_length 2 = .ok (.iconst 1, 1) := dk_4 (dk_at dksJ5_length_0 2 rfl rfl)
theorem dJ5_length_3 : decode cJ5_length 3 = .ok (.ishr, 1) := dk_122 (dk_at dksJ5_length_0 3 rfl rfl)
theorem dJ5_length_4 : decode cJ5_length 4 = .ok (.ireturn, 1) := dk_172 (dk_at dksJ5_length_0 4 rfl rfl)
abbrev cJ5_putChar : ByteArray := prog_38_method_4_code
def yJ5_putChar : MethodName := ⟨RJ5, "putChar", "([BII)V"⟩
def dkwJ5_putChar_2 : List UInt8 := [178, 0, 63, 122, 145, 84, 177]
abbrev dktJ5_putChar_2 : List UInt8 := dkwJ5_putChar_2 ++ []
def dkwJ5_putChar_1 : List UInt8 := [183, 0, 56, 191, 27, 4, 120, 60, 42, 27, 132, 1, 1, 28, 178, 0, 59, 122, 145, 84, 42, 27, 28]
abbrev dktJ5_putChar_1 : List UInt8 := dkwJ5_putChar_1 ++ dktJ5_putChar_2
def dkwJ5_putChar_0 : List UInt8 := [178, 0, 44, 154, 0, 25, 27, 155, 0, 11, 27, 42, 184, 0, 48, 161, 0, 13, 187, 0, 52, 89, 18, 54]
abbrev dktJ5_putChar_0 : List UInt8 := dkwJ5_putChar_0 ++ dktJ5_putChar_1
theorem dksJ5_putChar_0 : cJ5_putChar.data.toList.drop 0 = dktJ5_putChar_0 := by decide +kernel
theorem dksJ5_putChar_1 : cJ5_putChar.data.toList.drop 24 = dktJ5_putChar_1 := dk_seg dksJ5_putChar_0 24 rfl rfl
theorem dksJ5_putChar_2 : cJ5_putChar.data.toList.drop 47 = dktJ5_putChar_2 := dk_seg dksJ5_putChar_1 23 rfl rfl
theorem dJ5_putChar_0 : decode cJ5_putChar 0 = .ok (.getstatic 44, 3) := dk_178 0 44 (dk_at dksJ5_putChar_0 0 rfl rfl)
theorem dJ5_putChar_3 : decode cJ5_putChar 3 = .ok (.ifCond .ne 25, 3) := dk_154 0 25 (dk_at dksJ5_putChar_0 3 rfl rfl)
theorem dJ5_putChar_6 : decode cJ5_putChar 6 = .ok (.iload_n 1, 1) := dk_27 (dk_at dksJ5_putChar_0 6 rfl rfl)
theorem dJ5_putChar_7 : decode cJ5_putChar 7 = .ok (.ifCond .lt 11, 3) := dk_155 0 11 (dk_at dksJ5_putChar_0 7 rfl rfl)
theorem dJ5_putChar_10 : decode cJ5_putChar 10 = .ok (.iload_n 1, 1) := dk_27 (dk_at dksJ5_putChar_0 10 rfl rfl)
theorem dJ5_putChar_11 : decode cJ5_putChar 11 = .ok (.aload_n 0, 1) := dk_42 (dk_at dksJ5_putChar_0 11 rfl rfl)
theorem dJ5_putChar_12 : decode cJ5_putChar 12 = .ok (.invokestatic 48, 3) := dk_184 0 48 (dk_at dksJ5_putChar_0 12 rfl rfl)
theorem dJ5_putChar_15 : decode cJ5_putChar 15 = .ok (.if_icmp .lt 13, 3) := dk_161 0 13 (dk_at dksJ5_putChar_0 15 rfl rfl)
theorem dJ5_putChar_18 : decode cJ5_putChar 18 = .ok (.new 52, 3) := dk_187 0 52 (dk_at dksJ5_putChar_0 18 rfl rfl)
theorem dJ5_putChar_21 : decode cJ5_putChar 21 = .ok (.dup, 1) := dk_89 (dk_at dksJ5_putChar_0 21 rfl rfl)
theorem dJ5_putChar_22 : decode cJ5_putChar 22 = .ok (.ldc 54, 2) := dk_18 54 (dk_at dksJ5_putChar_0 22 rfl rfl)
theorem dJ5_putChar_24 : decode cJ5_putChar 24 = .ok (.invokespecial 56, 3) := dk_183 0 56 (dk_at dksJ5_putChar_1 0 rfl rfl)
theorem dJ5_putChar_27 : decode cJ5_putChar 27 = .ok (.athrow, 1) := dk_191 (dk_at dksJ5_putChar_1 3 rfl rfl)
theorem dJ5_putChar_28 : decode cJ5_putChar 28 = .ok (.iload_n 1, 1) := dk_27 (dk_at dksJ5_putChar_1 4 rfl rfl)
theorem dJ5_putChar_29 : decode cJ5_putChar 29 = .ok (.iconst 1, 1) := dk_4 (dk_at dksJ5_putChar_1 5 rfl rfl)
theorem dJ5_putChar_30 : decode cJ5_putChar 30 = .ok (.ishl, 1) := dk_120 (dk_at dksJ5_putChar_1 6 rfl rfl)
theorem dJ5_putChar_31 : decode cJ5_putChar 31 = .ok (.istore_n 1, 1) := dk_60 (dk_at dksJ5_putChar_1 7 rfl rfl)
theorem dJ5_putChar_32 : decode cJ5_putChar 32 = .ok (.aload_n 0, 1) := dk_42 (dk_at dksJ5_putChar_1 8 rfl rfl)
theorem dJ5_putChar_33 : decode cJ5_putChar 33 = .ok (.iload_n 1, 1) := dk_27 (dk_at dksJ5_putChar_1 9 rfl rfl)
theorem dJ5_putChar_34 : decode cJ5_putChar 34 = .ok (.iinc 1 1, 3) := dk_132 1 1 (dk_at dksJ5_putChar_1 10 rfl rfl)
theorem dJ5_putChar_37 : decode cJ5_putChar 37 = .ok (.iload_n 2, 1) := dk_28 (dk_at dksJ5_putChar_1 13 rfl rfl)
theorem dJ5_putChar_38 : decode cJ5_putChar 38 = .ok (.getstatic 59, 3) := dk_178 0 59 (dk_at dksJ5_putChar_1 14 rfl rfl)
theorem dJ5_putChar_41 : decode cJ5_putChar 41 = .ok (.ishr, 1) := dk_122 (dk_at dksJ5_putChar_1 17 rfl rfl)
theorem dJ5_putChar_42 : decode cJ5_putChar 42 = .ok (.i2b, 1) := dk_145 (dk_at dksJ5_putChar_1 18 rfl rfl)
theorem dJ5_putChar_43 : decode cJ5_putChar 43 = .ok (.bastore, 1) := dk_84 (dk_at dksJ5_putChar_1 19 rfl rfl)
theorem dJ5_putChar_44 : decode cJ5_putChar 44 = .ok (.aload_n 0, 1) := dk_42 (dk_at dksJ5_putChar_1 20 rfl rfl)
theorem dJ5_putChar_45 : decode cJ5_putChar 45 = .ok (.iload_n 1, 1) := dk_27 (dk_at dksJ5_putChar_1 21 rfl rfl)
theorem dJ5_putChar_46 : decode cJ5_putChar 46 = .ok (.iload_n 2, 1) := dk_28 (dk_at dksJ5_putChar_1 22 rfl rfl)
theorem dJ5_putChar_47 : decode cJ5_putChar 47 = .ok (.getstatic 63, 3) := dk_178 0 63 (dk_at dksJ5_putChar_2 0 rfl rfl)
theorem dJ5_putChar_50 : decode cJ5_putChar 50 = .ok (.ishr, 1) := dk_122 (dk_at dksJ5_putChar_2 3 rfl rfl)
theorem dJ5_putChar_51 : decode cJ5_putChar 51 = .ok (.i2b, 1) := dk_145 (dk_at dksJ5_putChar_2 4 rfl rfl)
theorem dJ5_putChar_52 : decode cJ5_putChar 52 = .ok (.bastore, 1) := dk_84 (dk_at dksJ5_putChar_2 5 rfl rfl)
theorem dJ5_putChar_53 : decode cJ5_putChar 53 = .ok (.return_, 1) := dk_177 (dk_at dksJ5_putChar_2 6 rfl rfl)
abbrev cJ5_inflate : ByteArray := prog_38_method_86_code
def yJ5_inflate : MethodName := ⟨RJ5, "inflate", "([BI[BII)V"⟩
def dkwJ5_inflate_1 : List UInt8 := [132, 1, 1, 51, 17, 0, 255, 126, 184, 0, 111, 132, 5, 1, 167, 255, 228, 177]
abbrev dktJ5_inflate_1 : List UInt8 := dkwJ5_inflate_1 ++ []
def dkwJ5_inflate_0 : List UInt8 := [29, 21, 4, 44, 184, 0, 173, 3, 54, 5, 21, 5, 21, 4, 162, 0, 27, 44, 29, 132, 3, 1, 42, 27]
abbrev dktJ5_inflate_0 : List UInt8 := dkwJ5_inflate_0 ++ dktJ5_inflate_1
theorem dksJ5_inflate_0 : cJ5_inflate.data.toList.drop 0 = dktJ5_inflate_0 := by decide +kernel
theorem dksJ5_inflate_1 : cJ5_inflate.data.toList.drop 24 = dktJ5_inflate_1 := dk_seg dksJ5_inflate_0 24 rfl rfl
theorem dJ5_inflate_0 : decode cJ5_inflate 0 = .ok (.iload_n 3, 1) := dk_29 (dk_at dksJ5_inflate_0 0 rfl rfl)
theorem dJ5_inflate_1 : decode cJ5_inflate 1 = .ok (.iload 4, 2) := dk_21 4 (dk_at dksJ5_inflate_0 1 rfl rfl)
theorem dJ5_inflate_3 : decode cJ5_inflate 3 = .ok (.aload_n 2, 1) := dk_44 (dk_at dksJ5_inflate_0 3 rfl rfl)
theorem dJ5_inflate_4 : decode cJ5_inflate 4 = .ok (.invokestatic 173, 3) := dk_184 0 173 (dk_at dksJ5_inflate_0 4 rfl rfl)
theorem dJ5_inflate_7 : decode cJ5_inflate 7 = .ok (.iconst 0, 1) := dk_3 (dk_at dksJ5_inflate_0 7 rfl rfl)
theorem dJ5_inflate_8 : decode cJ5_inflate 8 = .ok (.istore 5, 2) := dk_54 5 (dk_at dksJ5_inflate_0 8 rfl rfl)
theorem dJ5_inflate_10 : decode cJ5_inflate 10 = .ok (.iload 5, 2) := dk_21 5 (dk_at dksJ5_inflate_0 10 rfl rfl)
theorem dJ5_inflate_12 : decode cJ5_inflate 12 = .ok (.iload 4, 2) := dk_21 4 (dk_at dksJ5_inflate_0 12 rfl rfl)
theorem dJ5_inflate_14 : decode cJ5_inflate 14 = .ok (.if_icmp .ge 27, 3) := dk_162 0 27 (dk_at dksJ5_inflate_0 14 rfl rfl)
theorem dJ5_inflate_17 : decode cJ5_inflate 17 = .ok (.aload_n 2, 1) := dk_44 (dk_at dksJ5_inflate_0 17 rfl rfl)
theorem dJ5_inflate_18 : decode cJ5_inflate 18 = .ok (.iload_n 3, 1) := dk_29 (dk_at dksJ5_inflate_0 18 rfl rfl)
theorem dJ5_inflate_19 : decode cJ5_inflate 19 = .ok (.iinc 3 1, 3) := dk_132 3 1 (dk_at dksJ5_inflate_0 19 rfl rfl)
theorem dJ5_inflate_22 : decode cJ5_inflate 22 = .ok (.aload_n 0, 1) := dk_42 (dk_at dksJ5_inflate_0 22 rfl rfl)
theorem dJ5_inflate_23 : decode cJ5_inflate 23 = .ok (.iload_n 1, 1) := dk_27 (dk_at dksJ5_inflate_0 23 rfl rfl)
theorem dJ5_inflate_24 : decode cJ5_inflate 24 = .ok (.iinc 1 1, 3) := dk_132 1 1 (dk_at dksJ5_inflate_1 0 rfl rfl)
theorem dJ5_inflate_27 : decode cJ5_inflate 27 = .ok (.baload, 1) := dk_51 (dk_at dksJ5_inflate_1 3 rfl rfl)
theorem dJ5_inflate_28 : decode cJ5_inflate 28 = .ok (.sipush 255, 3) := dk_17 0 255 (dk_at dksJ5_inflate_1 4 rfl rfl)
theorem dJ5_inflate_31 : decode cJ5_inflate 31 = .ok (.iand, 1) := dk_126 (dk_at dksJ5_inflate_1 7 rfl rfl)
theorem dJ5_inflate_32 : decode cJ5_inflate 32 = .ok (.invokestatic 111, 3) := dk_184 0 111 (dk_at dksJ5_inflate_1 8 rfl rfl)
theorem dJ5_inflate_35 : decode cJ5_inflate 35 = .ok (.iinc 5 1, 3) := dk_132 5 1 (dk_at dksJ5_inflate_1 11 rfl rfl)
theorem dJ5_inflate_38 : decode cJ5_inflate 38 = .ok (.goto (-28), 3) := dk_167 255 228 (dk_at dksJ5_inflate_1 14 rfl rfl)
theorem dJ5_inflate_41 : decode cJ5_inflate 41 = .ok (.return_, 1) := dk_177 (dk_at dksJ5_inflate_1 17 rfl rfl)
abbrev cJ5_checkBoundsOffCount : ByteArray := prog_38_method_94_code
def yJ5_checkBoundsOffCount : MethodName := ⟨RJ5, "checkBoundsOffCount", "(II[B)V"⟩
def dkwJ5_checkBoundsOffCount_0 : List UInt8 := [26, 27, 44, 184, 0, 48, 184, 1, 163, 87, 177]
abbrev dktJ5_checkBoundsOffCount_0 : List UInt8 := dkwJ5_checkBoundsOffCount_0 ++ []
theorem dksJ5_checkBoundsOffCount_0 : cJ5_checkBoundsOffCount.data.toList.drop 0 = dktJ5_checkBoundsOffCount_0 := by decide +kernel
theorem dJ5_checkBoundsOffCount_0 : decode cJ5_checkBoundsOffCount 0 = .ok (.iload_n 0, 1) := dk_26 (dk_at dksJ5_checkBoundsOffCount_0 0 rfl rfl)
theorem dJ5_checkBoundsOffCount_1 : decode cJ5_checkBoundsOffCount 1 = .ok (.iload_n 1, 1) := dk_27 (dk_at dksJ5_checkBoundsOffCount_0 1 rfl rfl)
theorem dJ5_checkBoundsOffCount_2 : decode cJ5_checkBoundsOffCount 2 = .ok (.aload_n 2, 1) := dk_44 (dk_at dksJ5_checkBoundsOffCount_0 2 rfl rfl)
theorem dJ5_checkBoundsOffCount_3 : decode cJ5_checkBoundsOffCount 3 = .ok (.invokestatic 48, 3) := dk_184 0 48 (dk_at dksJ5_checkBoundsOffCount_0 3 rfl rfl)
theorem dJ5_checkBoundsOffCount_6 : decode cJ5_checkBoundsOffCount 6 = .ok (.invokestatic 419, 3) := dk_184 1 163 (dk_at dksJ5_checkBoundsOffCount_0 6 rfl rfl)
theorem dJ5_checkBoundsOffCount_9 : decode cJ5_checkBoundsOffCount 9 = .ok (.pop, 1) := dk_87 (dk_at dksJ5_checkBoundsOffCount_0 9 rfl rfl)
theorem dJ5_checkBoundsOffCount_10 : decode cJ5_checkBoundsOffCount 10 = .ok (.return_, 1) := dk_177 (dk_at dksJ5_checkBoundsOffCount_0 10 rfl rfl)
abbrev cJ5_getChars : ByteArray := prog_38_method_77_code
def yJ5_getChars : MethodName := ⟨RJ5, "getChars", "(III[B)I"⟩
def dkwJ5_getChars_1 : List UInt8 := [159, 0, 11, 187, 0, 52, 89, 183, 0, 66, 191, 21, 4, 172]
abbrev dktJ5_getChars_1 : List UInt8 := dkwJ5_getChars_1 ++ []
def dkwJ5_getChars_0 : List UInt8 := [27, 28, 45, 184, 0, 96, 26, 28, 45, 184, 1, 137, 54, 4, 178, 0, 44, 154, 0, 17, 27, 21, 4]
abbrev dktJ5_getChars_0 : List UInt8 := dkwJ5_getChars_0 ++ dktJ5_getChars_1
theorem dksJ5_getChars_0 : cJ5_getChars.data.toList.drop 0 = dktJ5_getChars_0 := by decide +kernel
theorem dksJ5_getChars_1 : cJ5_getChars.data.toList.drop 23 = dktJ5_getChars_1 := dk_seg dksJ5_getChars_0 23 rfl rfl
theorem dJ5_getChars_0 : decode cJ5_getChars 0 = .ok (.iload_n 1, 1) := dk_27 (dk_at dksJ5_getChars_0 0 rfl rfl)
theorem dJ5_getChars_1 : decode cJ5_getChars 1 = .ok (.iload_n 2, 1) := dk_28 (dk_at dksJ5_getChars_0 1 rfl rfl)
theorem dJ5_getChars_2 : decode cJ5_getChars 2 = .ok (.aload_n 3, 1) := dk_45 (dk_at dksJ5_getChars_0 2 rfl rfl)
theorem dJ5_getChars_3 : decode cJ5_getChars 3 = .ok (.invokestatic 96, 3) := dk_184 0 96 (dk_at dksJ5_getChars_0 3 rfl rfl)
theorem dJ5_getChars_6 : decode cJ5_getChars 6 = .ok (.iload_n 0, 1) := dk_26 (dk_at dksJ5_getChars_0 6 rfl rfl)
theorem dJ5_getChars_7 : decode cJ5_getChars 7 = .ok (.iload_n 2, 1) := dk_28 (dk_at dksJ5_getChars_0 7 rfl rfl)
theorem dJ5_getChars_8 : decode cJ5_getChars 8 = .ok (.aload_n 3, 1) := dk_45 (dk_at dksJ5_getChars_0 8 rfl rfl)
theorem dJ5_getChars_9 : decode cJ5_getChars 9 = .ok (.invokestatic 393, 3) := dk_184 1 137 (dk_at dksJ5_getChars_0 9 rfl rfl)
theorem dJ5_getChars_12 : decode cJ5_getChars 12 = .ok (.istore 4, 2) := dk_54 4 (dk_at dksJ5_getChars_0 12 rfl rfl)
theorem dJ5_getChars_14 : decode cJ5_getChars 14 = .ok (.getstatic 44, 3) := dk_178 0 44 (dk_at dksJ5_getChars_0 14 rfl rfl)
theorem dJ5_getChars_17 : decode cJ5_getChars 17 = .ok (.ifCond .ne 17, 3) := dk_154 0 17 (dk_at dksJ5_getChars_0 17 rfl rfl)
theorem dJ5_getChars_20 : decode cJ5_getChars 20 = .ok (.iload_n 1, 1) := dk_27 (dk_at dksJ5_getChars_0 20 rfl rfl)
theorem dJ5_getChars_21 : decode cJ5_getChars 21 = .ok (.iload 4, 2) := dk_21 4 (dk_at dksJ5_getChars_0 21 rfl rfl)
theorem dJ5_getChars_23 : decode cJ5_getChars 23 = .ok (.if_icmp .eq 11, 3) := dk_159 0 11 (dk_at dksJ5_getChars_1 0 rfl rfl)
theorem dJ5_getChars_26 : decode cJ5_getChars 26 = .ok (.new 52, 3) := dk_187 0 52 (dk_at dksJ5_getChars_1 3 rfl rfl)
theorem dJ5_getChars_29 : decode cJ5_getChars 29 = .ok (.dup, 1) := dk_89 (dk_at dksJ5_getChars_1 6 rfl rfl)
theorem dJ5_getChars_30 : decode cJ5_getChars 30 = .ok (.invokespecial 66, 3) := dk_183 0 66 (dk_at dksJ5_getChars_1 7 rfl rfl)
theorem dJ5_getChars_33 : decode cJ5_getChars 33 = .ok (.athrow, 1) := dk_191 (dk_at dksJ5_getChars_1 10 rfl rfl)
theorem dJ5_getChars_34 : decode cJ5_getChars 34 = .ok (.iload 4, 2) := dk_21 4 (dk_at dksJ5_getChars_1 11 rfl rfl)
theorem dJ5_getChars_36 : decode cJ5_getChars 36 = .ok (.ireturn, 1) := dk_172 (dk_at dksJ5_getChars_1 13 rfl rfl)
abbrev cJ5_getChars_2 : ByteArray := prog_38_method_89_code
def yJ5_getChars_2 : MethodName := ⟨RJ5, "getChars", "(II[B)I"⟩
def dkwJ5_getChars_2_5 : List UInt8 := [132, 5, 255, 21, 5, 16, 45, 184, 0, 111, 21, 5, 172]
abbrev dktJ5_getChars_2_5 : List UInt8 := dkwJ5_getChars_2_5 ++ []
def dkwJ5_getChars_2_4 : List UInt8 := [162, 0, 18, 44, 132, 5, 255, 21, 5, 178, 1, 151, 26, 116, 51, 184, 0, 111, 21, 6, 153, 0, 14, 44]
abbrev dktJ5_getChars_2_4 : List UInt8 := dkwJ5_getChars_2_4 ++ dktJ5_getChars_2_5
def dkwJ5_getChars_2_3 : List UInt8 := [184, 0, 111, 167, 255, 205, 44, 132, 5, 255, 21, 5, 178, 1, 147, 26, 116, 51, 184, 0, 111, 26, 16, 247]
abbrev dktJ5_getChars_2_3 : List UInt8 := dkwJ5_getChars_2_3 ++ dktJ5_getChars_2_4
def dkwJ5_getChars_2_2 : List UInt8 := [21, 5, 178, 1, 147, 21, 4, 51, 184, 0, 111, 44, 132, 5, 255, 21, 5, 178, 1, 151, 21, 4, 51]
abbrev dktJ5_getChars_2_2 : List UInt8 := dkwJ5_getChars_2_2 ++ dktJ5_getChars_2_3
def dkwJ5_getChars_2_1 : List UInt8 := [16, 156, 163, 0, 51, 26, 16, 100, 108, 62, 29, 16, 100, 104, 26, 100, 54, 4, 29, 59, 44, 132, 5, 255]
abbrev dktJ5_getChars_2_1 : List UInt8 := dkwJ5_getChars_2_1 ++ dktJ5_getChars_2_2
def dkwJ5_getChars_2_0 : List UInt8 := [27, 54, 5, 26, 156, 0, 7, 4, 167, 0, 4, 3, 54, 6, 21, 6, 154, 0, 6, 26, 116, 59, 26]
abbrev dktJ5_getChars_2_0 : List UInt8 := dkwJ5_getChars_2_0 ++ dktJ5_getChars_2_1
theorem dksJ5_getChars_2_0 : cJ5_getChars_2.data.toList.drop 0 = dktJ5_getChars_2_0 := by decide +kernel
theorem dksJ5_getChars_2_1 : cJ5_getChars_2.data.toList.drop 23 = dktJ5_getChars_2_1 := dk_seg dksJ5_getChars_2_0 23 rfl rfl
theorem dksJ5_getChars_2_2 : cJ5_getChars_2.data.toList.drop 47 = dktJ5_getChars_2_2 := dk_seg dksJ5_getChars_2_1 24 rfl rfl
theorem dksJ5_getChars_2_3 : cJ5_getChars_2.data.toList.drop 70 = dktJ5_getChars_2_3 := dk_seg dksJ5_getChars_2_2 23 rfl rfl
theorem dksJ5_getChars_2_4 : cJ5_getChars_2.data.toList.drop 94 = dktJ5_getChars_2_4 := dk_seg dksJ5_getChars_2_3 24 rfl rfl
theorem dksJ5_getChars_2_5 : cJ5_getChars_2.data.toList.drop 118 = dktJ5_getChars_2_5 := dk_seg dksJ5_getChars_2_4 24 rfl rfl
theorem dJ5_getChars_2_0 : decode cJ5_getChars_2 0 = .ok (.iload_n 1, 1) := dk_27 (dk_at dksJ5_getChars_2_0 0 rfl rfl)
theorem dJ5_getChars_2_1 : decode cJ5_getChars_2 1 = .ok (.istore 5, 2) := dk_54 5 (dk_at dksJ5_getChars_2_0 1 rfl rfl)
theorem dJ5_getChars_2_3 : decode cJ5_getChars_2 3 = .ok (.iload_n 0, 1) := dk_26 (dk_at dksJ5_getChars_2_0 3 rfl rfl)
theorem dJ5_getChars_2_4 : decode cJ5_getChars_2 4 = .ok (.ifCond .ge 7, 3) := dk_156 0 7 (dk_at dksJ5_getChars_2_0 4 rfl rfl)
theorem dJ5_getChars_2_7 : decode cJ5_getChars_2 7 = .ok (.iconst 1, 1) := dk_4 (dk_at dksJ5_getChars_2_0 7 rfl rfl)
theorem dJ5_getChars_2_8 : decode cJ5_getChars_2 8 = .ok (.goto 4, 3) := dk_167 0 4 (dk_at dksJ5_getChars_2_0 8 rfl rfl)
theorem dJ5_getChars_2_11 : decode cJ5_getChars_2 11 = .ok (.iconst 0, 1) := dk_3 (dk_at dksJ5_getChars_2_0 11 rfl rfl)
theorem dJ5_getChars_2_12 : decode cJ5_getChars_2 12 = .ok (.istore 6, 2) := dk_54 6 (dk_at dksJ5_getChars_2_0 12 rfl rfl)
theorem dJ5_getChars_2_14 : decode cJ5_getChars_2 14 = .ok (.iload 6, 2) := dk_21 6 (dk_at dksJ5_getChars_2_0 14 rfl rfl)
theorem dJ5_getChars_2_16 : decode cJ5_getChars_2 16 = .ok (.ifCond .ne 6, 3) := dk_154 0 6 (dk_at dksJ5_getChars_2_0 16 rfl rfl)
theorem dJ5_getChars_2_19 : decode cJ5_getChars_2 19 = .ok (.iload_n 0, 1) := dk_26 (dk_at dksJ5_getChars_2_0 19 rfl rfl)
theorem dJ5_getChars_2_20 : decode cJ5_getChars_2 20 = .ok (.ineg, 1) := dk_116 (dk_at dksJ5_getChars_2_0 20 rfl rfl)
theorem dJ5_getChars_2_21 : decode cJ5_getChars_2 21 = .ok (.istore_n 0, 1) := dk_59 (dk_at dksJ5_getChars_2_0 21 rfl rfl)
theorem dJ5_getChars_2_22 : decode cJ5_getChars_2 22 = .ok (.iload_n 0, 1) := dk_26 (dk_at dksJ5_getChars_2_0 22 rfl rfl)
theorem dJ5_getChars_2_23 : decode cJ5_getChars_2 23 = .ok (.bipush (-100), 2) := dk_16 156 (dk_at dksJ5_getChars_2_1 0 rfl rfl)
theorem dJ5_getChars_2_25 : decode cJ5_getChars_2 25 = .ok (.if_icmp .gt 51, 3) := dk_163 0 51 (dk_at dksJ5_getChars_2_1 2 rfl rfl)
theorem dJ5_getChars_2_28 : decode cJ5_getChars_2 28 = .ok (.iload_n 0, 1) := dk_26 (dk_at dksJ5_getChars_2_1 5 rfl rfl)
theorem dJ5_getChars_2_29 : decode cJ5_getChars_2 29 = .ok (.bipush 100, 2) := dk_16 100 (dk_at dksJ5_getChars_2_1 6 rfl rfl)
theorem dJ5_getChars_2_31 : decode cJ5_getChars_2 31 = .ok (.idiv, 1) := dk_108 (dk_at dksJ5_getChars_2_1 8 rfl rfl)
theorem dJ5_getChars_2_32 : decode cJ5_getChars_2 32 = .ok (.istore_n 3, 1) := dk_62 (dk_at dksJ5_getChars_2_1 9 rfl rfl)
theorem dJ5_getChars_2_33 : decode cJ5_getChars_2 33 = .ok (.iload_n 3, 1) := dk_29 (dk_at dksJ5_getChars_2_1 10 rfl rfl)
theorem dJ5_getChars_2_34 : decode cJ5_getChars_2 34 = .ok (.bipush 100, 2) := dk_16 100 (dk_at dksJ5_getChars_2_1 11 rfl rfl)
theorem dJ5_getChars_2_36 : decode cJ5_getChars_2 36 = .ok (.imul, 1) := dk_104 (dk_at dksJ5_getChars_2_1 13 rfl rfl)
theorem dJ5_getChars_2_37 : decode cJ5_getChars_2 37 = .ok (.iload_n 0, 1) := dk_26 (dk_at dksJ5_getChars_2_1 14 rfl rfl)
theorem dJ5_getChars_2_38 : decode cJ5_getChars_2 38 = .ok (.isub, 1) := dk_100 (dk_at dksJ5_getChars_2_1 15 rfl rfl)
theorem dJ5_getChars_2_39 : decode cJ5_getChars_2 39 = .ok (.istore 4, 2) := dk_54 4 (dk_at dksJ5_getChars_2_1 16 rfl rfl)
theorem dJ5_getChars_2_41 : decode cJ5_getChars_2 41 = .ok (.iload_n 3, 1) := dk_29 (dk_at dksJ5_getChars_2_1 18 rfl rfl)
theorem dJ5_getChars_2_42 : decode cJ5_getChars_2 42 = .ok (.istore_n 0, 1) := dk_59 (dk_at dksJ5_getChars_2_1 19 rfl rfl)
theorem dJ5_getChars_2_43 : decode cJ5_getChars_2 43 = .ok (.aload_n 2, 1) := dk_44 (dk_at dksJ5_getChars_2_1 20 rfl rfl)
theorem dJ5_getChars_2_44 : decode cJ5_getChars_2 44 = .ok (.iinc 5 (-1), 3) := dk_132 5 255 (dk_at dksJ5_getChars_2_1 21 rfl rfl)
theorem dJ5_getChars_2_47 : decode cJ5_getChars_2 47 = .ok (.iload 5, 2) := dk_21 5 (dk_at dksJ5_getChars_2_2 0 rfl rfl)
theorem dJ5_getChars_2_49 : decode cJ5_getChars_2 49 = .ok (.getstatic 403, 3) := dk_178 1 147 (dk_at dksJ5_getChars_2_2 2 rfl rfl)
theorem dJ5_getChars_2_52 : decode cJ5_getChars_2 52 = .ok (.iload 4, 2) := dk_21 4 (dk_at dksJ5_getChars_2_2 5 rfl rfl)
theorem dJ5_getChars_2_54 : decode cJ5_getChars_2 54 = .ok (.baload, 1) := dk_51 (dk_at dksJ5_getChars_2_2 7 rfl rfl)
theorem dJ5_getChars_2_55 : decode cJ5_getChars_2 55 = .ok (.invokestatic 111, 3) := dk_184 0 111 (dk_at dksJ5_getChars_2_2 8 rfl rfl)
theorem dJ5_getChars_2_58 : decode cJ5_getChars_2 58 = .ok (.aload_n 2, 1) := dk_44 (dk_at dksJ5_getChars_2_2 11 rfl rfl)
theorem dJ5_getChars_2_59 : decode cJ5_getChars_2 59 = .ok (.iinc 5 (-1), 3) := dk_132 5 255 (dk_at dksJ5_getChars_2_2 12 rfl rfl)
theorem dJ5_getChars_2_62 : decode cJ5_getChars_2 62 = .ok (.iload 5, 2) := dk_21 5 (dk_at dksJ5_getChars_2_2 15 rfl rfl)
theorem dJ5_getChars_2_64 : decode cJ5_getChars_2 64 = .ok (.getstatic 407, 3) := dk_178 1 151 (dk_at dksJ5_getChars_2_2 17 rfl rfl)
theorem dJ5_getChars_2_67 : decode cJ5_getChars_2 67 = .ok (.iload 4, 2) := dk_21 4 (dk_at dksJ5_getChars_2_2 20 rfl rfl)
theorem dJ5_getChars_2_69 : decode cJ5_getChars_2 69 = .ok (.baload, 1) := dk_51 (dk_at dksJ5_getChars_2_2 22 rfl rfl)
theorem dJ5_getChars_2_70 : decode cJ5_getChars_2 70 = .ok (.invokestatic 111, 3) := dk_184 0 111 (dk_at dksJ5_getChars_2_3 0 rfl rfl)
theorem dJ5_getChars_2_73 : decode cJ5_getChars_2 73 = .ok (.goto (-51), 3) := dk_167 255 205 (dk_at dksJ5_getChars_2_3 3 rfl rfl)
theorem dJ5_getChars_2_76 : decode cJ5_getChars_2 76 = .ok (.aload_n 2, 1) := dk_44 (dk_at dksJ5_getChars_2_3 6 rfl rfl)
theorem dJ5_getChars_2_77 : decode cJ5_getChars_2 77 = .ok (.iinc 5 (-1), 3) := dk_132 5 255 (dk_at dksJ5_getChars_2_3 7 rfl rfl)
theorem dJ5_getChars_2_80 : decode cJ5_getChars_2 80 = .ok (.iload 5, 2) := dk_21 5 (dk_at dksJ5_getChars_2_3 10 rfl rfl)
theorem dJ5_getChars_2_82 : decode cJ5_getChars_2 82 = .ok (.getstatic 403, 3) := dk_178 1 147 (dk_at dksJ5_getChars_2_3 12 rfl rfl)
theorem dJ5_getChars_2_85 : decode cJ5_getChars_2 85 = .ok (.iload_n 0, 1) := dk_26 (dk_at dksJ5_getChars_2_3 15 rfl rfl)
theorem dJ5_getChars_2_86 : decode cJ5_getChars_2 86 = .ok (.ineg, 1) := dk_116 (dk_at dksJ5_getChars_2_3 16 rfl rfl)
theorem dJ5_getChars_2_87 : decode cJ5_getChars_2 87 = .ok (.baload, 1) := dk_51 (dk_at dksJ5_getChars_2_3 17 rfl rfl)
theorem dJ5_getChars_2_88 : decode cJ5_getChars_2 88 = .ok (.invokestatic 111, 3) := dk_184 0 111 (dk_at dksJ5_getChars_2_3 18 rfl rfl)
theorem dJ5_getChars_2_91 : decode cJ5_getChars_2 91 = .ok (.iload_n 0, 1) := dk_26 (dk_at dksJ5_getChars_2_3 21 rfl rfl)
theorem dJ5_getChars_2_92 : decode cJ5_getChars_2 92 = .ok (.bipush (-9), 2) := dk_16 247 (dk_at dksJ5_getChars_2_3 22 rfl rfl)
theorem dJ5_getChars_2_94 : decode cJ5_getChars_2 94 = .ok (.if_icmp .ge 18, 3) := dk_162 0 18 (dk_at dksJ5_getChars_2_4 0 rfl rfl)
theorem dJ5_getChars_2_97 : decode cJ5_getChars_2 97 = .ok (.aload_n 2, 1) := dk_44 (dk_at dksJ5_getChars_2_4 3 rfl rfl)
theorem dJ5_getChars_2_98 : decode cJ5_getChars_2 98 = .ok (.iinc 5 (-1), 3) := dk_132 5 255 (dk_at dksJ5_getChars_2_4 4 rfl rfl)
theorem dJ5_getChars_2_101 : decode cJ5_getChars_2 101 = .ok (.iload 5, 2) := dk_21 5 (dk_at dksJ5_getChars_2_4 7 rfl rfl)
theorem dJ5_getChars_2_103 : decode cJ5_getChars_2 103 = .ok (.getstatic 407, 3) := dk_178 1 151 (dk_at dksJ5_getChars_2_4 9 rfl rfl)
theorem dJ5_getChars_2_106 : decode cJ5_getChars_2 106 = .ok (.iload_n 0, 1) := dk_26 (dk_at dksJ5_getChars_2_4 12 rfl rfl)
theorem dJ5_getChars_2_107 : decode cJ5_getChars_2 107 = .ok (.ineg, 1) := dk_116 (dk_at dksJ5_getChars_2_4 13 rfl rfl)
theorem dJ5_getChars_2_108 : decode cJ5_getChars_2 108 = .ok (.baload, 1) := dk_51 (dk_at dksJ5_getChars_2_4 14 rfl rfl)
theorem dJ5_getChars_2_109 : decode cJ5_getChars_2 109 = .ok (.invokestatic 111, 3) := dk_184 0 111 (dk_at dksJ5_getChars_2_4 15 rfl rfl)
theorem dJ5_getChars_2_112 : decode cJ5_getChars_2 112 = .ok (.iload 6, 2) := dk_21 6 (dk_at dksJ5_getChars_2_4 18 rfl rfl)
theorem dJ5_getChars_2_114 : decode cJ5_getChars_2 114 = .ok (.ifCond .eq 14, 3) := dk_153 0 14 (dk_at dksJ5_getChars_2_4 20 rfl rfl)
theorem dJ5_getChars_2_117 : decode cJ5_getChars_2 117 = .ok (.aload_n 2, 1) := dk_44 (dk_at dksJ5_getChars_2_4 23 rfl rfl)
theorem dJ5_getChars_2_118 : decode cJ5_getChars_2 118 = .ok (.iinc 5 (-1), 3) := dk_132 5 255 (dk_at dksJ5_getChars_2_5 0 rfl rfl)
theorem dJ5_getChars_2_121 : decode cJ5_getChars_2 121 = .ok (.iload 5, 2) := dk_21 5 (dk_at dksJ5_getChars_2_5 3 rfl rfl)
theorem dJ5_getChars_2_123 : decode cJ5_getChars_2 123 = .ok (.bipush 45, 2) := dk_16 45 (dk_at dksJ5_getChars_2_5 5 rfl rfl)
theorem dJ5_getChars_2_125 : decode cJ5_getChars_2 125 = .ok (.invokestatic 111, 3) := dk_184 0 111 (dk_at dksJ5_getChars_2_5 7 rfl rfl)
theorem dJ5_getChars_2_128 : decode cJ5_getChars_2 128 = .ok (.iload 5, 2) := dk_21 5 (dk_at dksJ5_getChars_2_5 10 rfl rfl)
theorem dJ5_getChars_2_130 : decode cJ5_getChars_2 130 = .ok (.ireturn, 1) := dk_172 (dk_at dksJ5_getChars_2_5 12 rfl rfl)
abbrev cJ5_compress : ByteArray := prog_38_method_17_code
def yJ5_compress : MethodName := ⟨RJ5, "compress", "([BII)[B"⟩
def dkwJ5_compress_2 : List UInt8 := [25, 5, 3, 45, 3, 28, 184, 0, 123, 28, 159, 0, 6, 25, 5, 176, 45, 176]
abbrev dktJ5_compress_2 : List UInt8 := dkwJ5_compress_2 ++ []
def dkwJ5_compress_1 : List UInt8 := [27, 28, 96, 184, 0, 11, 184, 0, 126, 58, 5, 25, 5, 21, 4, 184, 0, 71, 17, 0, 255, 163, 0, 16]
abbrev dktJ5_compress_1 : List UInt8 := dkwJ5_compress_1 ++ dktJ5_compress_2
def dkwJ5_compress_0 : List UInt8 := [28, 188, 8, 78, 42, 27, 45, 3, 28, 184, 0, 123, 54, 4, 21, 4, 28, 159, 0, 47, 42, 27, 4, 120]
abbrev dktJ5_compress_0 : List UInt8 := dkwJ5_compress_0 ++ dktJ5_compress_1
theorem dksJ5_compress_0 : cJ5_compress.data.toList.drop 0 = dktJ5_compress_0 := by decide +kernel
theorem dksJ5_compress_1 : cJ5_compress.data.toList.drop 24 = dktJ5_compress_1 := dk_seg dksJ5_compress_0 24 rfl rfl
theorem dksJ5_compress_2 : cJ5_compress.data.toList.drop 48 = dktJ5_compress_2 := dk_seg dksJ5_compress_1 24 rfl rfl
theorem dJ5_compress_0 : decode cJ5_compress 0 = .ok (.iload_n 2, 1) := dk_28 (dk_at dksJ5_compress_0 0 rfl rfl)
theorem dJ5_compress_1 : decode cJ5_compress 1 = .ok (.newarray .byte, 2) := dk_188_8 (dk_at dksJ5_compress_0 1 rfl rfl)
theorem dJ5_compress_3 : decode cJ5_compress 3 = .ok (.astore_n 3, 1) := dk_78 (dk_at dksJ5_compress_0 3 rfl rfl)
theorem dJ5_compress_4 : decode cJ5_compress 4 = .ok (.aload_n 0, 1) := dk_42 (dk_at dksJ5_compress_0 4 rfl rfl)
theorem dJ5_compress_5 : decode cJ5_compress 5 = .ok (.iload_n 1, 1) := dk_27 (dk_at dksJ5_compress_0 5 rfl rfl)
theorem dJ5_compress_6 : decode cJ5_compress 6 = .ok (.aload_n 3, 1) := dk_45 (dk_at dksJ5_compress_0 6 rfl rfl)
theorem dJ5_compress_7 : decode cJ5_compress 7 = .ok (.iconst 0, 1) := dk_3 (dk_at dksJ5_compress_0 7 rfl rfl)
theorem dJ5_compress_8 : decode cJ5_compress 8 = .ok (.iload_n 2, 1) := dk_28 (dk_at dksJ5_compress_0 8 rfl rfl)
theorem dJ5_compress_9 : decode cJ5_compress 9 = .ok (.invokestatic 123, 3) := dk_184 0 123 (dk_at dksJ5_compress_0 9 rfl rfl)
theorem dJ5_compress_12 : decode cJ5_compress 12 = .ok (.istore 4, 2) := dk_54 4 (dk_at dksJ5_compress_0 12 rfl rfl)
theorem dJ5_compress_14 : decode cJ5_compress 14 = .ok (.iload 4, 2) := dk_21 4 (dk_at dksJ5_compress_0 14 rfl rfl)
theorem dJ5_compress_16 : decode cJ5_compress 16 = .ok (.iload_n 2, 1) := dk_28 (dk_at dksJ5_compress_0 16 rfl rfl)
theorem dJ5_compress_17 : decode cJ5_compress 17 = .ok (.if_icmp .eq 47, 3) := dk_159 0 47 (dk_at dksJ5_compress_0 17 rfl rfl)
theorem dJ5_compress_20 : decode cJ5_compress 20 = .ok (.aload_n 0, 1) := dk_42 (dk_at dksJ5_compress_0 20 rfl rfl)
theorem dJ5_compress_21 : decode cJ5_compress 21 = .ok (.iload_n 1, 1) := dk_27 (dk_at dksJ5_compress_0 21 rfl rfl)
theorem dJ5_compress_22 : decode cJ5_compress 22 = .ok (.iconst 1, 1) := dk_4 (dk_at dksJ5_compress_0 22 rfl rfl)
theorem dJ5_compress_23 : decode cJ5_compress 23 = .ok (.ishl, 1) := dk_120 (dk_at dksJ5_compress_0 23 rfl rfl)
theorem dJ5_compress_24 : decode cJ5_compress 24 = .ok (.iload_n 1, 1) := dk_27 (dk_at dksJ5_compress_1 0 rfl rfl)
theorem dJ5_compress_25 : decode cJ5_compress 25 = .ok (.iload_n 2, 1) := dk_28 (dk_at dksJ5_compress_1 1 rfl rfl)
theorem dJ5_compress_26 : decode cJ5_compress 26 = .ok (.iadd, 1) := dk_96 (dk_at dksJ5_compress_1 2 rfl rfl)
theorem dJ5_compress_27 : decode cJ5_compress 27 = .ok (.invokestatic 11, 3) := dk_184 0 11 (dk_at dksJ5_compress_1 3 rfl rfl)
theorem dJ5_compress_30 : decode cJ5_compress 30 = .ok (.invokestatic 126, 3) := dk_184 0 126 (dk_at dksJ5_compress_1 6 rfl rfl)
theorem dJ5_compress_33 : decode cJ5_compress 33 = .ok (.astore 5, 2) := dk_58 5 (dk_at dksJ5_compress_1 9 rfl rfl)
theorem dJ5_compress_35 : decode cJ5_compress 35 = .ok (.aload 5, 2) := dk_25 5 (dk_at dksJ5_compress_1 11 rfl rfl)
theorem dJ5_compress_37 : decode cJ5_compress 37 = .ok (.iload 4, 2) := dk_21 4 (dk_at dksJ5_compress_1 13 rfl rfl)
theorem dJ5_compress_39 : decode cJ5_compress 39 = .ok (.invokestatic 71, 3) := dk_184 0 71 (dk_at dksJ5_compress_1 15 rfl rfl)
theorem dJ5_compress_42 : decode cJ5_compress 42 = .ok (.sipush 255, 3) := dk_17 0 255 (dk_at dksJ5_compress_1 18 rfl rfl)
theorem dJ5_compress_45 : decode cJ5_compress 45 = .ok (.if_icmp .gt 16, 3) := dk_163 0 16 (dk_at dksJ5_compress_1 21 rfl rfl)
theorem dJ5_compress_48 : decode cJ5_compress 48 = .ok (.aload 5, 2) := dk_25 5 (dk_at dksJ5_compress_2 0 rfl rfl)
theorem dJ5_compress_50 : decode cJ5_compress 50 = .ok (.iconst 0, 1) := dk_3 (dk_at dksJ5_compress_2 2 rfl rfl)
theorem dJ5_compress_51 : decode cJ5_compress 51 = .ok (.aload_n 3, 1) := dk_45 (dk_at dksJ5_compress_2 3 rfl rfl)
theorem dJ5_compress_52 : decode cJ5_compress 52 = .ok (.iconst 0, 1) := dk_3 (dk_at dksJ5_compress_2 4 rfl rfl)
theorem dJ5_compress_53 : decode cJ5_compress 53 = .ok (.iload_n 2, 1) := dk_28 (dk_at dksJ5_compress_2 5 rfl rfl)
theorem dJ5_compress_54 : decode cJ5_compress 54 = .ok (.invokestatic 123, 3) := dk_184 0 123 (dk_at dksJ5_compress_2 6 rfl rfl)
theorem dJ5_compress_57 : decode cJ5_compress 57 = .ok (.iload_n 2, 1) := dk_28 (dk_at dksJ5_compress_2 9 rfl rfl)
theorem dJ5_compress_58 : decode cJ5_compress 58 = .ok (.if_icmp .eq 6, 3) := dk_159 0 6 (dk_at dksJ5_compress_2 10 rfl rfl)
theorem dJ5_compress_61 : decode cJ5_compress 61 = .ok (.aload 5, 2) := dk_25 5 (dk_at dksJ5_compress_2 13 rfl rfl)
theorem dJ5_compress_63 : decode cJ5_compress 63 = .ok (.areturn, 1) := dk_176 (dk_at dksJ5_compress_2 15 rfl rfl)
theorem dJ5_compress_64 : decode cJ5_compress 64 = .ok (.aload_n 3, 1) := dk_45 (dk_at dksJ5_compress_2 16 rfl rfl)
theorem dJ5_compress_65 : decode cJ5_compress 65 = .ok (.areturn, 1) := dk_176 (dk_at dksJ5_compress_2 17 rfl rfl)
abbrev cJ5_compress_2 : ByteArray := prog_38_method_22_code
def yJ5_compress_2 : MethodName := ⟨RJ5, "compress", "([BI[BII)I"⟩
def dkwJ5_compress_2_2 : List UInt8 := [132, 5, 1, 167, 255, 216, 21, 4, 172]
abbrev dktJ5_compress_2_2 : List UInt8 := dkwJ5_compress_2_2 ++ []
def dkwJ5_compress_2_1 : List UInt8 := [21, 6, 17, 0, 255, 164, 0, 6, 21, 5, 172, 44, 29, 21, 6, 145, 84, 132, 1, 1, 132, 3, 1]
abbrev dktJ5_compress_2_1 : List UInt8 := dkwJ5_compress_2_1 ++ dktJ5_compress_2_2
def dkwJ5_compress_2_0 : List UInt8 := [27, 21, 4, 42, 184, 0, 173, 3, 54, 5, 21, 5, 21, 4, 162, 0, 39, 42, 27, 184, 0, 71, 54, 6]
abbrev dktJ5_compress_2_0 : List UInt8 := dkwJ5_compress_2_0 ++ dktJ5_compress_2_1
theorem dksJ5_compress_2_0 : cJ5_compress_2.data.toList.drop 0 = dktJ5_compress_2_0 := by decide +kernel
theorem dksJ5_compress_2_1 : cJ5_compress_2.data.toList.drop 24 = dktJ5_compress_2_1 := dk_seg dksJ5_compress_2_0 24 rfl rfl
theorem dksJ5_compress_2_2 : cJ5_compress_2.data.toList.drop 47 = dktJ5_compress_2_2 := dk_seg dksJ5_compress_2_1 23 rfl rfl
theorem dJ5_compress_2_0 : decode cJ5_compress_2 0 = .ok (.iload_n 1, 1) := dk_27 (dk_at dksJ5_compress_2_0 0 rfl rfl)
theorem dJ5_compress_2_1 : decode cJ5_compress_2 1 = .ok (.iload 4, 2) := dk_21 4 (dk_at dksJ5_compress_2_0 1 rfl rfl)
theorem dJ5_compress_2_3 : decode cJ5_compress_2 3 = .ok (.aload_n 0, 1) := dk_42 (dk_at dksJ5_compress_2_0 3 rfl rfl)
theorem dJ5_compress_2_4 : decode cJ5_compress_2 4 = .ok (.invokestatic 173, 3) := dk_184 0 173 (dk_at dksJ5_compress_2_0 4 rfl rfl)
theorem dJ5_compress_2_7 : decode cJ5_compress_2 7 = .ok (.iconst 0, 1) := dk_3 (dk_at dksJ5_compress_2_0 7 rfl rfl)
theorem dJ5_compress_2_8 : decode cJ5_compress_2 8 = .ok (.istore 5, 2) := dk_54 5 (dk_at dksJ5_compress_2_0 8 rfl rfl)
theorem dJ5_compress_2_10 : decode cJ5_compress_2 10 = .ok (.iload 5, 2) := dk_21 5 (dk_at dksJ5_compress_2_0 10 rfl rfl)
theorem dJ5_compress_2_12 : decode cJ5_compress_2 12 = .ok (.iload 4, 2) := dk_21 4 (dk_at dksJ5_compress_2_0 12 rfl rfl)
theorem dJ5_compress_2_14 : decode cJ5_compress_2 14 = .ok (.if_icmp .ge 39, 3) := dk_162 0 39 (dk_at dksJ5_compress_2_0 14 rfl rfl)
theorem dJ5_compress_2_17 : decode cJ5_compress_2 17 = .ok (.aload_n 0, 1) := dk_42 (dk_at dksJ5_compress_2_0 17 rfl rfl)
theorem dJ5_compress_2_18 : decode cJ5_compress_2 18 = .ok (.iload_n 1, 1) := dk_27 (dk_at dksJ5_compress_2_0 18 rfl rfl)
theorem dJ5_compress_2_19 : decode cJ5_compress_2 19 = .ok (.invokestatic 71, 3) := dk_184 0 71 (dk_at dksJ5_compress_2_0 19 rfl rfl)
theorem dJ5_compress_2_22 : decode cJ5_compress_2 22 = .ok (.istore 6, 2) := dk_54 6 (dk_at dksJ5_compress_2_0 22 rfl rfl)
theorem dJ5_compress_2_24 : decode cJ5_compress_2 24 = .ok (.iload 6, 2) := dk_21 6 (dk_at dksJ5_compress_2_1 0 rfl rfl)
theorem dJ5_compress_2_26 : decode cJ5_compress_2 26 = .ok (.sipush 255, 3) := dk_17 0 255 (dk_at dksJ5_compress_2_1 2 rfl rfl)
theorem dJ5_compress_2_29 : decode cJ5_compress_2 29 = .ok (.if_icmp .le 6, 3) := dk_164 0 6 (dk_at dksJ5_compress_2_1 5 rfl rfl)
theorem dJ5_compress_2_32 : decode cJ5_compress_2 32 = .ok (.iload 5, 2) := dk_21 5 (dk_at dksJ5_compress_2_1 8 rfl rfl)
theorem dJ5_compress_2_34 : decode cJ5_compress_2 34 = .ok (.ireturn, 1) := dk_172 (dk_at dksJ5_compress_2_1 10 rfl rfl)
theorem dJ5_compress_2_35 : decode cJ5_compress_2 35 = .ok (.aload_n 2, 1) := dk_44 (dk_at dksJ5_compress_2_1 11 rfl rfl)
theorem dJ5_compress_2_36 : decode cJ5_compress_2 36 = .ok (.iload_n 3, 1) := dk_29 (dk_at dksJ5_compress_2_1 12 rfl rfl)
theorem dJ5_compress_2_37 : decode cJ5_compress_2 37 = .ok (.iload 6, 2) := dk_21 6 (dk_at dksJ5_compress_2_1 13 rfl rfl)
theorem dJ5_compress_2_39 : decode cJ5_compress_2 39 = .ok (.i2b, 1) := dk_145 (dk_at dksJ5_compress_2_1 15 rfl rfl)
theorem dJ5_compress_2_40 : decode cJ5_compress_2 40 = .ok (.bastore, 1) := dk_84 (dk_at dksJ5_compress_2_1 16 rfl rfl)
theorem dJ5_compress_2_41 : decode cJ5_compress_2 41 = .ok (.iinc 1 1, 3) := dk_132 1 1 (dk_at dksJ5_compress_2_1 17 rfl rfl)
theorem dJ5_compress_2_44 : decode cJ5_compress_2 44 = .ok (.iinc 3 1, 3) := dk_132 3 1 (dk_at dksJ5_compress_2_1 20 rfl rfl)
theorem dJ5_compress_2_47 : decode cJ5_compress_2 47 = .ok (.iinc 5 1, 3) := dk_132 5 1 (dk_at dksJ5_compress_2_2 0 rfl rfl)
theorem dJ5_compress_2_50 : decode cJ5_compress_2 50 = .ok (.goto (-40), 3) := dk_167 255 216 (dk_at dksJ5_compress_2_2 3 rfl rfl)
theorem dJ5_compress_2_53 : decode cJ5_compress_2 53 = .ok (.iload 4, 2) := dk_21 4 (dk_at dksJ5_compress_2_2 6 rfl rfl)
theorem dJ5_compress_2_55 : decode cJ5_compress_2 55 = .ok (.ireturn, 1) := dk_172 (dk_at dksJ5_compress_2_2 8 rfl rfl)
abbrev cJ5_getChar : ByteArray := prog_38_method_5_code
def yJ5_getChar : MethodName := ⟨RJ5, "getChar", "([BI)C"⟩
def dkwJ5_getChar_2 : List UInt8 := [51, 17, 0, 255, 126, 178, 0, 63, 120, 128, 146, 172]
abbrev dktJ5_getChar_2 : List UInt8 := dkwJ5_getChar_2 ++ []
def dkwJ5_getChar_1 : List UInt8 := [183, 0, 56, 191, 27, 4, 120, 60, 42, 27, 132, 1, 1, 51, 17, 0, 255, 126, 178, 0, 59, 120, 42, 27]
abbrev dktJ5_getChar_1 : List UInt8 := dkwJ5_getChar_1 ++ dktJ5_getChar_2
def dkwJ5_getChar_0 : List UInt8 := [178, 0, 44, 154, 0, 25, 27, 155, 0, 11, 27, 42, 184, 0, 48, 161, 0, 13, 187, 0, 52, 89, 18, 54]
abbrev dktJ5_getChar_0 : List UInt8 := dkwJ5_getChar_0 ++ dktJ5_getChar_1
theorem dksJ5_getChar_0 : cJ5_getChar.data.toList.drop 0 = dktJ5_getChar_0 := by decide +kernel
theorem dksJ5_getChar_1 : cJ5_getChar.data.toList.drop 24 = dktJ5_getChar_1 := dk_seg dksJ5_getChar_0 24 rfl rfl
theorem dksJ5_getChar_2 : cJ5_getChar.data.toList.drop 48 = dktJ5_getChar_2 := dk_seg dksJ5_getChar_1 24 rfl rfl
theorem dJ5_getChar_0 : decode cJ5_getChar 0 = .ok (.getstatic 44, 3) := dk_178 0 44 (dk_at dksJ5_getChar_0 0 rfl rfl)
theorem dJ5_getChar_3 : decode cJ5_getChar 3 = .ok (.ifCond .ne 25, 3) := dk_154 0 25 (dk_at dksJ5_getChar_0 3 rfl rfl)
theorem dJ5_getChar_6 : decode cJ5_getChar 6 = .ok (.iload_n 1, 1) := dk_27 (dk_at dksJ5_getChar_0 6 rfl rfl)
theorem dJ5_getChar_7 : decode cJ5_getChar 7 = .ok (.ifCond .lt 11, 3) := dk_155 0 11 (dk_at dksJ5_getChar_0 7 rfl rfl)
theorem dJ5_getChar_10 : decode cJ5_getChar 10 = .ok (.iload_n 1, 1) := dk_27 (dk_at dksJ5_getChar_0 10 rfl rfl)
theorem dJ5_getChar_11 : decode cJ5_getChar 11 = .ok (.aload_n 0, 1) := dk_42 (dk_at dksJ5_getChar_0 11 rfl rfl)
theorem dJ5_getChar_12 : decode cJ5_getChar 12 = .ok (.invokestatic 48, 3) := dk_184 0 48 (dk_at dksJ5_getChar_0 12 rfl rfl)
theorem dJ5_getChar_15 : decode cJ5_getChar 15 = .ok (.if_icmp .lt 13, 3) := dk_161 0 13 (dk_at dksJ5_getChar_0 15 rfl rfl)
theorem dJ5_getChar_18 : decode cJ5_getChar 18 = .ok (.new 52, 3) := dk_187 0 52 (dk_at dksJ5_getChar_0 18 rfl rfl)
theorem dJ5_getChar_21 : decode cJ5_getChar 21 = .ok (.dup, 1) := dk_89 (dk_at dksJ5_getChar_0 21 rfl rfl)
theorem dJ5_getChar_22 : decode cJ5_getChar 22 = .ok (.ldc 54, 2) := dk_18 54 (dk_at dksJ5_getChar_0 22 rfl rfl)
theorem dJ5_getChar_24 : decode cJ5_getChar 24 = .ok (.invokespecial 56, 3) := dk_183 0 56 (dk_at dksJ5_getChar_1 0 rfl rfl)
theorem dJ5_getChar_27 : decode cJ5_getChar 27 = .ok (.athrow, 1) := dk_191 (dk_at dksJ5_getChar_1 3 rfl rfl)
theorem dJ5_getChar_28 : decode cJ5_getChar 28 = .ok (.iload_n 1, 1) := dk_27 (dk_at dksJ5_getChar_1 4 rfl rfl)
theorem dJ5_getChar_29 : decode cJ5_getChar 29 = .ok (.iconst 1, 1) := dk_4 (dk_at dksJ5_getChar_1 5 rfl rfl)
theorem dJ5_getChar_30 : decode cJ5_getChar 30 = .ok (.ishl, 1) := dk_120 (dk_at dksJ5_getChar_1 6 rfl rfl)
theorem dJ5_getChar_31 : decode cJ5_getChar 31 = .ok (.istore_n 1, 1) := dk_60 (dk_at dksJ5_getChar_1 7 rfl rfl)
theorem dJ5_getChar_32 : decode cJ5_getChar 32 = .ok (.aload_n 0, 1) := dk_42 (dk_at dksJ5_getChar_1 8 rfl rfl)
theorem dJ5_getChar_33 : decode cJ5_getChar 33 = .ok (.iload_n 1, 1) := dk_27 (dk_at dksJ5_getChar_1 9 rfl rfl)
theorem dJ5_getChar_34 : decode cJ5_getChar 34 = .ok (.iinc 1 1, 3) := dk_132 1 1 (dk_at dksJ5_getChar_1 10 rfl rfl)
theorem dJ5_getChar_37 : decode cJ5_getChar 37 = .ok (.baload, 1) := dk_51 (dk_at dksJ5_getChar_1 13 rfl rfl)
theorem dJ5_getChar_38 : decode cJ5_getChar 38 = .ok (.sipush 255, 3) := dk_17 0 255 (dk_at dksJ5_getChar_1 14 rfl rfl)
theorem dJ5_getChar_41 : decode cJ5_getChar 41 = .ok (.iand, 1) := dk_126 (dk_at dksJ5_getChar_1 17 rfl rfl)
theorem dJ5_getChar_42 : decode cJ5_getChar 42 = .ok (.getstatic 59, 3) := dk_178 0 59 (dk_at dksJ5_getChar_1 18 rfl rfl)
theorem dJ5_getChar_45 : decode cJ5_getChar 45 = .ok (.ishl, 1) := dk_120 (dk_at dksJ5_getChar_1 21 rfl rfl)
theorem dJ5_getChar_46 : decode cJ5_getChar 46 = .ok (.aload_n 0, 1) := dk_42 (dk_at dksJ5_getChar_1 22 rfl rfl)
theorem dJ5_getChar_47 : decode cJ5_getChar 47 = .ok (.iload_n 1, 1) := dk_27 (dk_at dksJ5_getChar_1 23 rfl rfl)
theorem dJ5_getChar_48 : decode cJ5_getChar 48 = .ok (.baload, 1) := dk_51 (dk_at dksJ5_getChar_2 0 rfl rfl)
theorem dJ5_getChar_49 : decode cJ5_getChar 49 = .ok (.sipush 255, 3) := dk_17 0 255 (dk_at dksJ5_getChar_2 1 rfl rfl)
theorem dJ5_getChar_52 : decode cJ5_getChar 52 = .ok (.iand, 1) := dk_126 (dk_at dksJ5_getChar_2 4 rfl rfl)
theorem dJ5_getChar_53 : decode cJ5_getChar 53 = .ok (.getstatic 63, 3) := dk_178 0 63 (dk_at dksJ5_getChar_2 5 rfl rfl)
theorem dJ5_getChar_56 : decode cJ5_getChar 56 = .ok (.ishl, 1) := dk_120 (dk_at dksJ5_getChar_2 8 rfl rfl)
theorem dJ5_getChar_57 : decode cJ5_getChar 57 = .ok (.ior, 1) := dk_128 (dk_at dksJ5_getChar_2 9 rfl rfl)
theorem dJ5_getChar_58 : decode cJ5_getChar 58 = .ok (.i2c, 1) := dk_146 (dk_at dksJ5_getChar_2 10 rfl rfl)
theorem dJ5_getChar_59 : decode cJ5_getChar 59 = .ok (.ireturn, 1) := dk_172 (dk_at dksJ5_getChar_2 11 rfl rfl)
abbrev cJ5_coderFromArrayLen : ByteArray := prog_38_method_15_code
def yJ5_coderFromArrayLen : MethodName := ⟨RJ5, "coderFromArrayLen", "([BI)B"⟩
def dkwJ5_coderFromArrayLen_0 : List UInt8 := [27, 42, 190, 100, 16, 31, 124, 145, 172]
abbrev dktJ5_coderFromArrayLen_0 : List UInt8 := dkwJ5_coderFromArrayLen_0 ++ []
theorem dksJ5_coderFromArrayLen_0 : cJ5_coderFromArrayLen.data.toList.drop 0 = dktJ5_coderFromArrayLen_0 := by decide +kernel
theorem dJ5_coderFromArrayLen_0 : decode cJ5_coderFromArrayLen 0 = .ok (.iload_n 1, 1) := dk_27 (dk_at dksJ5_coderFromArrayLen_0 0 rfl rfl)
theorem dJ5_coderFromArrayLen_1 : decode cJ5_coderFromArrayLen 1 = .ok (.aload_n 0, 1) := dk_42 (dk_at dksJ5_coderFromArrayLen_0 1 rfl rfl)
theorem dJ5_coderFromArrayLen_2 : decode cJ5_coderFromArrayLen 2 = .ok (.arraylength, 1) := dk_190 (dk_at dksJ5_coderFromArrayLen_0 2 rfl rfl)
theorem dJ5_coderFromArrayLen_3 : decode cJ5_coderFromArrayLen 3 = .ok (.isub, 1) := dk_100 (dk_at dksJ5_coderFromArrayLen_0 3 rfl rfl)
theorem dJ5_coderFromArrayLen_4 : decode cJ5_coderFromArrayLen 4 = .ok (.bipush 31, 2) := dk_16 31 (dk_at dksJ5_coderFromArrayLen_0 4 rfl rfl)
theorem dJ5_coderFromArrayLen_6 : decode cJ5_coderFromArrayLen 6 = .ok (.iushr, 1) := dk_124 (dk_at dksJ5_coderFromArrayLen_0 6 rfl rfl)
theorem dJ5_coderFromArrayLen_7 : decode cJ5_coderFromArrayLen 7 = .ok (.i2b, 1) := dk_145 (dk_at dksJ5_coderFromArrayLen_0 7 rfl rfl)
theorem dJ5_coderFromArrayLen_8 : decode cJ5_coderFromArrayLen 8 = .ok (.ireturn, 1) := dk_172 (dk_at dksJ5_coderFromArrayLen_0 8 rfl rfl)
abbrev cJ5_putCharSB : ByteArray := prog_38_method_71_code
def yJ5_putCharSB : MethodName := ⟨RJ5, "putCharSB", "([BII)V"⟩
def dkwJ5_putCharSB_0 : List UInt8 := [27, 42, 184, 0, 67, 42, 27, 28, 184, 0, 111, 177]
abbrev dktJ5_putCharSB_0 : List UInt8 := dkwJ5_putCharSB_0 ++ []
theorem dksJ5_putCharSB_0 : cJ5_putCharSB.data.toList.drop 0 = dktJ5_putCharSB_0 := by decide +kernel
theorem dJ5_putCharSB_0 : decode cJ5_putCharSB 0 = .ok (.iload_n 1, 1) := dk_27 (dk_at dksJ5_putCharSB_0 0 rfl rfl)
theorem dJ5_putCharSB_1 : decode cJ5_putCharSB 1 = .ok (.aload_n 0, 1) := dk_42 (dk_at dksJ5_putCharSB_0 1 rfl rfl)
theorem dJ5_putCharSB_2 : decode cJ5_putCharSB 2 = .ok (.invokestatic 67, 3) := dk_184 0 67 (dk_at dksJ5_putCharSB_0 2 rfl rfl)
theorem dJ5_putCharSB_5 : decode cJ5_putCharSB 5 = .ok (.aload_n 0, 1) := dk_42 (dk_at dksJ5_putCharSB_0 5 rfl rfl)
theorem dJ5_putCharSB_6 : decode cJ5_putCharSB 6 = .ok (.iload_n 1, 1) := dk_27 (dk_at dksJ5_putCharSB_0 6 rfl rfl)
theorem dJ5_putCharSB_7 : decode cJ5_putCharSB 7 = .ok (.iload_n 2, 1) := dk_28 (dk_at dksJ5_putCharSB_0 7 rfl rfl)
theorem dJ5_putCharSB_8 : decode cJ5_putCharSB 8 = .ok (.invokestatic 111, 3) := dk_184 0 111 (dk_at dksJ5_putCharSB_0 8 rfl rfl)
theorem dJ5_putCharSB_11 : decode cJ5_putCharSB 11 = .ok (.return_, 1) := dk_177 (dk_at dksJ5_putCharSB_0 11 rfl rfl)
abbrev cJ5_checkIndex : ByteArray := prog_38_method_91_code
def yJ5_checkIndex : MethodName := ⟨RJ5, "checkIndex", "(I[B)V"⟩
def dkwJ5_checkIndex_0 : List UInt8 := [26, 43, 184, 0, 48, 184, 1, 158, 177]
abbrev dktJ5_checkIndex_0 : List UInt8 := dkwJ5_checkIndex_0 ++ []
theorem dksJ5_checkIndex_0 : cJ5_checkIndex.data.toList.drop 0 = dktJ5_checkIndex_0 := by decide +kernel
theorem dJ5_checkIndex_0 : decode cJ5_checkIndex 0 = .ok (.iload_n 0, 1) := dk_26 (dk_at dksJ5_checkIndex_0 0 rfl rfl)
theorem dJ5_checkIndex_1 : decode cJ5_checkIndex 1 = .ok (.aload_n 1, 1) := dk_43 (dk_at dksJ5_checkIndex_0 1 rfl rfl)
theorem dJ5_checkIndex_2 : decode cJ5_checkIndex 2 = .ok (.invokestatic 48, 3) := dk_184 0 48 (dk_at dksJ5_checkIndex_0 2 rfl rfl)
theorem dJ5_checkIndex_5 : decode cJ5_checkIndex 5 = .ok (.invokestatic 414, 3) := dk_184 1 158 (dk_at dksJ5_checkIndex_0 5 rfl rfl)
theorem dJ5_checkIndex_8 : decode cJ5_checkIndex 8 = .ok (.return_, 1) := dk_177 (dk_at dksJ5_checkIndex_0 8 rfl rfl)
abbrev cJ5_hashCode : ByteArray := prog_38_method_39_code
def yJ5_hashCode : MethodName := ⟨RJ5, "hashCode", "([B)I"⟩
def dkwJ5_hashCode_2 : List UInt8 := [3, 167, 0, 22, 42, 3, 184, 0, 71, 167, 0, 14, 42, 3, 42, 190, 4, 122, 3, 8, 184, 0, 220, 172]
abbrev dktJ5_hashCode_2 : List UInt8 := dkwJ5_hashCode_2 ++ []
def dkwJ5_hashCode_1 : List UInt8 := [171, 0, 0, 0, 0, 38, 0, 0, 0, 2, 0, 0, 0, 0, 0, 0, 0, 26, 0, 0, 0, 2, 0, 0, 0, 30]
abbrev dktJ5_hashCode_1 : List UInt8 := dkwJ5_hashCode_1 ++ dktJ5_hashCode_2
def dkwJ5_hashCode_0 : List UInt8 := [42, 190]
abbrev dktJ5_hashCode_0 : List UInt8 := dkwJ5_hashCode_0 ++ dktJ5_hashCode_1
theorem dksJ5_hashCode_0 : cJ5_hashCode.data.toList.drop 0 = dktJ5_hashCode_0 := by decide +kernel
theorem dksJ5_hashCode_1 : cJ5_hashCode.data.toList.drop 2 = dktJ5_hashCode_1 := dk_seg dksJ5_hashCode_0 2 rfl rfl
theorem dksJ5_hashCode_2 : cJ5_hashCode.data.toList.drop 28 = dktJ5_hashCode_2 := dk_seg dksJ5_hashCode_1 26 rfl rfl
theorem dJ5_hashCode_0 : decode cJ5_hashCode 0 = .ok (.aload_n 0, 1) := dk_42 (dk_at dksJ5_hashCode_0 0 rfl rfl)
theorem dJ5_hashCode_1 : decode cJ5_hashCode 1 = .ok (.arraylength, 1) := dk_190 (dk_at dksJ5_hashCode_0 1 rfl rfl)
theorem dJ5_hashCode_2 : decode cJ5_hashCode 2 = .ok (.lookupswitch 38 #[(0, 26), (2, 30)], 26) := by decide +kernel
theorem dJ5_hashCode_28 : decode cJ5_hashCode 28 = .ok (.iconst 0, 1) := dk_3 (dk_at dksJ5_hashCode_2 0 rfl rfl)
theorem dJ5_hashCode_29 : decode cJ5_hashCode 29 = .ok (.goto 22, 3) := dk_167 0 22 (dk_at dksJ5_hashCode_2 1 rfl rfl)
theorem dJ5_hashCode_32 : decode cJ5_hashCode 32 = .ok (.aload_n 0, 1) := dk_42 (dk_at dksJ5_hashCode_2 4 rfl rfl)
theorem dJ5_hashCode_33 : decode cJ5_hashCode 33 = .ok (.iconst 0, 1) := dk_3 (dk_at dksJ5_hashCode_2 5 rfl rfl)
theorem dJ5_hashCode_34 : decode cJ5_hashCode 34 = .ok (.invokestatic 71, 3) := dk_184 0 71 (dk_at dksJ5_hashCode_2 6 rfl rfl)
theorem dJ5_hashCode_37 : decode cJ5_hashCode 37 = .ok (.goto 14, 3) := dk_167 0 14 (dk_at dksJ5_hashCode_2 9 rfl rfl)
theorem dJ5_hashCode_40 : decode cJ5_hashCode 40 = .ok (.aload_n 0, 1) := dk_42 (dk_at dksJ5_hashCode_2 12 rfl rfl)
theorem dJ5_hashCode_41 : decode cJ5_hashCode 41 = .ok (.iconst 0, 1) := dk_3 (dk_at dksJ5_hashCode_2 13 rfl rfl)
theorem dJ5_hashCode_42 : decode cJ5_hashCode 42 = .ok (.aload_n 0, 1) := dk_42 (dk_at dksJ5_hashCode_2 14 rfl rfl)
theorem dJ5_hashCode_43 : decode cJ5_hashCode 43 = .ok (.arraylength, 1) := dk_190 (dk_at dksJ5_hashCode_2 15 rfl rfl)
theorem dJ5_hashCode_44 : decode cJ5_hashCode 44 = .ok (.iconst 1, 1) := dk_4 (dk_at dksJ5_hashCode_2 16 rfl rfl)
theorem dJ5_hashCode_45 : decode cJ5_hashCode 45 = .ok (.ishr, 1) := dk_122 (dk_at dksJ5_hashCode_2 17 rfl rfl)
theorem dJ5_hashCode_46 : decode cJ5_hashCode 46 = .ok (.iconst 0, 1) := dk_3 (dk_at dksJ5_hashCode_2 18 rfl rfl)
theorem dJ5_hashCode_47 : decode cJ5_hashCode 47 = .ok (.iconst 5, 1) := dk_8 (dk_at dksJ5_hashCode_2 19 rfl rfl)
theorem dJ5_hashCode_48 : decode cJ5_hashCode 48 = .ok (.invokestatic 220, 3) := dk_184 0 220 (dk_at dksJ5_hashCode_2 20 rfl rfl)
theorem dJ5_hashCode_51 : decode cJ5_hashCode 51 = .ok (.ireturn, 1) := dk_172 (dk_at dksJ5_hashCode_2 23 rfl rfl)
abbrev cJ5_fillNull : ByteArray := prog_38_method_70_code
def yJ5_fillNull : MethodName := ⟨RJ5, "fillNull", "([BII)V"⟩
def dkwJ5_fillNull_0 : List UInt8 := [42, 27, 4, 120, 28, 4, 120, 3, 184, 1, 124, 177]
abbrev dktJ5_fillNull_0 : List UInt8 := dkwJ5_fillNull_0 ++ []
theorem dksJ5_fillNull_0 : cJ5_fillNull.data.toList.drop 0 = dktJ5_fillNull_0 := by decide +kernel
theorem dJ5_fillNull_0 : decode cJ5_fillNull 0 = .ok (.aload_n 0, 1) := dk_42 (dk_at dksJ5_fillNull_0 0 rfl rfl)
theorem dJ5_fillNull_1 : decode cJ5_fillNull 1 = .ok (.iload_n 1, 1) := dk_27 (dk_at dksJ5_fillNull_0 1 rfl rfl)
theorem dJ5_fillNull_2 : decode cJ5_fillNull 2 = .ok (.iconst 1, 1) := dk_4 (dk_at dksJ5_fillNull_0 2 rfl rfl)
theorem dJ5_fillNull_3 : decode cJ5_fillNull 3 = .ok (.ishl, 1) := dk_120 (dk_at dksJ5_fillNull_0 3 rfl rfl)
theorem dJ5_fillNull_4 : decode cJ5_fillNull 4 = .ok (.iload_n 2, 1) := dk_28 (dk_at dksJ5_fillNull_0 4 rfl rfl)
theorem dJ5_fillNull_5 : decode cJ5_fillNull 5 = .ok (.iconst 1, 1) := dk_4 (dk_at dksJ5_fillNull_0 5 rfl rfl)
theorem dJ5_fillNull_6 : decode cJ5_fillNull 6 = .ok (.ishl, 1) := dk_120 (dk_at dksJ5_fillNull_0 6 rfl rfl)
theorem dJ5_fillNull_7 : decode cJ5_fillNull 7 = .ok (.iconst 0, 1) := dk_3 (dk_at dksJ5_fillNull_0 7 rfl rfl)
theorem dJ5_fillNull_8 : decode cJ5_fillNull 8 = .ok (.invokestatic 380, 3) := dk_184 1 124 (dk_at dksJ5_fillNull_0 8 rfl rfl)
theorem dJ5_fillNull_11 : decode cJ5_fillNull 11 = .ok (.return_, 1) := dk_177 (dk_at dksJ5_fillNull_0 11 rfl rfl)
abbrev cJ5_getChars_3 : ByteArray := prog_38_method_78_code
def yJ5_getChars_3 : MethodName := ⟨RJ5, "getChars", "(JII[B)I"⟩
def dkwJ5_getChars_3_1 : List UInt8 := [21, 5, 159, 0, 11, 187, 0, 52, 89, 183, 0, 66, 191, 21, 5, 172]
abbrev dktJ5_getChars_3_1 : List UInt8 := dkwJ5_getChars_3_1 ++ []
def dkwJ5_getChars_3_0 : List UInt8 := [28, 29, 25, 4, 184, 0, 96, 30, 29, 25, 4, 184, 1, 140, 54, 5, 178, 0, 44, 154, 0, 17, 28]
abbrev dktJ5_getChars_3_0 : List UInt8 := dkwJ5_getChars_3_0 ++ dktJ5_getChars_3_1
theorem dksJ5_getChars_3_0 : cJ5_getChars_3.data.toList.drop 0 = dktJ5_getChars_3_0 := by decide +kernel
theorem dksJ5_getChars_3_1 : cJ5_getChars_3.data.toList.drop 23 = dktJ5_getChars_3_1 := dk_seg dksJ5_getChars_3_0 23 rfl rfl
theorem dJ5_getChars_3_0 : decode cJ5_getChars_3 0 = .ok (.iload_n 2, 1) := dk_28 (dk_at dksJ5_getChars_3_0 0 rfl rfl)
theorem dJ5_getChars_3_1 : decode cJ5_getChars_3 1 = .ok (.iload_n 3, 1) := dk_29 (dk_at dksJ5_getChars_3_0 1 rfl rfl)
theorem dJ5_getChars_3_2 : decode cJ5_getChars_3 2 = .ok (.aload 4, 2) := dk_25 4 (dk_at dksJ5_getChars_3_0 2 rfl rfl)
theorem dJ5_getChars_3_4 : decode cJ5_getChars_3 4 = .ok (.invokestatic 96, 3) := dk_184 0 96 (dk_at dksJ5_getChars_3_0 4 rfl rfl)
theorem dJ5_getChars_3_7 : decode cJ5_getChars_3 7 = .ok (.lload_n 0, 1) := dk_30 (dk_at dksJ5_getChars_3_0 7 rfl rfl)
theorem dJ5_getChars_3_8 : decode cJ5_getChars_3 8 = .ok (.iload_n 3, 1) := dk_29 (dk_at dksJ5_getChars_3_0 8 rfl rfl)
theorem dJ5_getChars_3_9 : decode cJ5_getChars_3 9 = .ok (.aload 4, 2) := dk_25 4 (dk_at dksJ5_getChars_3_0 9 rfl rfl)
theorem dJ5_getChars_3_11 : decode cJ5_getChars_3 11 = .ok (.invokestatic 396, 3) := dk_184 1 140 (dk_at dksJ5_getChars_3_0 11 rfl rfl)
theorem dJ5_getChars_3_14 : decode cJ5_getChars_3 14 = .ok (.istore 5, 2) := dk_54 5 (dk_at dksJ5_getChars_3_0 14 rfl rfl)
theorem dJ5_getChars_3_16 : decode cJ5_getChars_3 16 = .ok (.getstatic 44, 3) := dk_178 0 44 (dk_at dksJ5_getChars_3_0 16 rfl rfl)
theorem dJ5_getChars_3_19 : decode cJ5_getChars_3 19 = .ok (.ifCond .ne 17, 3) := dk_154 0 17 (dk_at dksJ5_getChars_3_0 19 rfl rfl)
theorem dJ5_getChars_3_22 : decode cJ5_getChars_3 22 = .ok (.iload_n 2, 1) := dk_28 (dk_at dksJ5_getChars_3_0 22 rfl rfl)
theorem dJ5_getChars_3_23 : decode cJ5_getChars_3 23 = .ok (.iload 5, 2) := dk_21 5 (dk_at dksJ5_getChars_3_1 0 rfl rfl)
theorem dJ5_getChars_3_25 : decode cJ5_getChars_3 25 = .ok (.if_icmp .eq 11, 3) := dk_159 0 11 (dk_at dksJ5_getChars_3_1 2 rfl rfl)
theorem dJ5_getChars_3_28 : decode cJ5_getChars_3 28 = .ok (.new 52, 3) := dk_187 0 52 (dk_at dksJ5_getChars_3_1 5 rfl rfl)
theorem dJ5_getChars_3_31 : decode cJ5_getChars_3 31 = .ok (.dup, 1) := dk_89 (dk_at dksJ5_getChars_3_1 8 rfl rfl)
theorem dJ5_getChars_3_32 : decode cJ5_getChars_3 32 = .ok (.invokespecial 66, 3) := dk_183 0 66 (dk_at dksJ5_getChars_3_1 9 rfl rfl)
theorem dJ5_getChars_3_35 : decode cJ5_getChars_3 35 = .ok (.athrow, 1) := dk_191 (dk_at dksJ5_getChars_3_1 12 rfl rfl)
theorem dJ5_getChars_3_36 : decode cJ5_getChars_3 36 = .ok (.iload 5, 2) := dk_21 5 (dk_at dksJ5_getChars_3_1 13 rfl rfl)
theorem dJ5_getChars_3_38 : decode cJ5_getChars_3 38 = .ok (.ireturn, 1) := dk_172 (dk_at dksJ5_getChars_3_1 15 rfl rfl)
abbrev cJ5_getChars_4 : ByteArray := prog_38_method_90_code
def yJ5_getChars_4 : MethodName := ⟨RJ5, "getChars", "(JI[B)I"⟩
def dkwJ5_getChars_4_8 : List UInt8 := [184, 0, 111, 21, 8, 153, 0, 14, 45, 132, 7, 255, 21, 7, 16, 45, 184, 0, 111, 21, 7, 172]
abbrev dktJ5_getChars_4_8 : List UInt8 := dkwJ5_getChars_4_8 ++ []
def dkwJ5_getChars_4_7 : List UInt8 := [184, 0, 111, 21, 10, 16, 247, 162, 0, 19, 45, 132, 7, 255, 21, 7, 178, 1, 151, 21, 10, 116, 51]
abbrev dktJ5_getChars_4_7 : List UInt8 := dkwJ5_getChars_4_7 ++ dktJ5_getChars_4_8
def dkwJ5_getChars_4_6 : List UInt8 := [21, 6, 51, 184, 0, 111, 167, 255, 198, 45, 132, 7, 255, 21, 7, 178, 1, 147, 21, 10, 116, 51]
abbrev dktJ5_getChars_4_6 : List UInt8 := dkwJ5_getChars_4_6 ++ dktJ5_getChars_4_7
def dkwJ5_getChars_4_5 : List UInt8 := [45, 132, 7, 255, 21, 7, 178, 1, 147, 21, 6, 51, 184, 0, 111, 45, 132, 7, 255, 21, 7, 178, 1, 151]
abbrev dktJ5_getChars_4_5 : List UInt8 := dkwJ5_getChars_4_5 ++ dktJ5_getChars_4_6
def dkwJ5_getChars_4_4 : List UInt8 := [163, 0, 57, 21, 10, 16, 100, 108, 54, 9, 21, 9, 16, 100, 104, 21, 10, 100, 54, 6, 21, 9, 54, 10]
abbrev dktJ5_getChars_4_4 : List UInt8 := dkwJ5_getChars_4_4 ++ dktJ5_getChars_4_5
def dkwJ5_getChars_4_3 : List UInt8 := [21, 7, 178, 1, 151, 21, 6, 51, 184, 0, 111, 167, 255, 197, 30, 136, 54, 10, 21, 10, 16, 156]
abbrev dktJ5_getChars_4_3 : List UInt8 := dkwJ5_getChars_4_3 ++ dktJ5_getChars_4_4
def dkwJ5_getChars_4_2 : List UInt8 := [54, 6, 22, 4, 63, 45, 132, 7, 255, 21, 7, 178, 1, 147, 21, 6, 51, 184, 0, 111, 45, 132, 7, 255]
abbrev dktJ5_getChars_4_2 : List UInt8 := dkwJ5_getChars_4_2 ++ dktJ5_getChars_4_3
def dkwJ5_getChars_4_1 : List UInt8 := [30, 20, 1, 154, 148, 157, 0, 57, 30, 20, 1, 156, 109, 55, 4, 22, 4, 20, 1, 156, 105, 30, 101, 136]
abbrev dktJ5_getChars_4_1 : List UInt8 := dkwJ5_getChars_4_1 ++ dktJ5_getChars_4_2
def dkwJ5_getChars_4_0 : List UInt8 := [28, 54, 7, 30, 9, 148, 156, 0, 7, 4, 167, 0, 4, 3, 54, 8, 21, 8, 154, 0, 6, 30, 117, 63]
abbrev dktJ5_getChars_4_0 : List UInt8 := dkwJ5_getChars_4_0 ++ dktJ5_getChars_4_1
theorem dksJ5_getChars_4_0 : cJ5_getChars_4.data.toList.drop 0 = dktJ5_getChars_4_0 := by decide +kernel
theorem dksJ5_getChars_4_1 : cJ5_getChars_4.data.toList.drop 24 = dktJ5_getChars_4_1 := dk_seg dksJ5_getChars_4_0 24 rfl rfl
theorem dksJ5_getChars_4_2 : cJ5_getChars_4.data.toList.drop 48 = dktJ5_getChars_4_2 := dk_seg dksJ5_getChars_4_1 24 rfl rfl
theorem dksJ5_getChars_4_3 : cJ5_getChars_4.data.toList.drop 72 = dktJ5_getChars_4_3 := dk_seg dksJ5_getChars_4_2 24 rfl rfl
theorem dksJ5_getChars_4_4 : cJ5_getChars_4.data.toList.drop 94 = dktJ5_getChars_4_4 := dk_seg dksJ5_getChars_4_3 22 rfl rfl
theorem dksJ5_getChars_4_5 : cJ5_getChars_4.data.toList.drop 118 = dktJ5_getChars_4_5 := dk_seg dksJ5_getChars_4_4 24 rfl rfl
theorem dksJ5_getChars_4_6 : cJ5_getChars_4.data.toList.drop 142 = dktJ5_getChars_4_6 := dk_seg dksJ5_getChars_4_5 24 rfl rfl
theorem dksJ5_getChars_4_7 : cJ5_getChars_4.data.toList.drop 164 = dktJ5_getChars_4_7 := dk_seg dksJ5_getChars_4_6 22 rfl rfl
theorem dksJ5_getChars_4_8 : cJ5_getChars_4.data.toList.drop 187 = dktJ5_getChars_4_8 := dk_seg dksJ5_getChars_4_7 23 rfl rfl
theorem dJ5_getChars_4_0 : decode cJ5_getChars_4 0 = .ok (.iload_n 2, 1) := dk_28 (dk_at dksJ5_getChars_4_0 0 rfl rfl)
theorem dJ5_getChars_4_1 : decode cJ5_getChars_4 1 = .ok (.istore 7, 2) := dk_54 7 (dk_at dksJ5_getChars_4_0 1 rfl rfl)
theorem dJ5_getChars_4_3 : decode cJ5_getChars_4 3 = .ok (.lload_n 0, 1) := dk_30 (dk_at dksJ5_getChars_4_0 3 rfl rfl)
theorem dJ5_getChars_4_4 : decode cJ5_getChars_4 4 = .ok (.lconst 0, 1) := dk_9 (dk_at dksJ5_getChars_4_0 4 rfl rfl)
theorem dJ5_getChars_4_5 : decode cJ5_getChars_4 5 = .ok (.lcmp, 1) := dk_148 (dk_at dksJ5_getChars_4_0 5 rfl rfl)
theorem dJ5_getChars_4_6 : decode cJ5_getChars_4 6 = .ok (.ifCond .ge 7, 3) := dk_156 0 7 (dk_at dksJ5_getChars_4_0 6 rfl rfl)
theorem dJ5_getChars_4_9 : decode cJ5_getChars_4 9 = .ok (.iconst 1, 1) := dk_4 (dk_at dksJ5_getChars_4_0 9 rfl rfl)
theorem dJ5_getChars_4_10 : decode cJ5_getChars_4 10 = .ok (.goto 4, 3) := dk_167 0 4 (dk_at dksJ5_getChars_4_0 10 rfl rfl)
theorem dJ5_getChars_4_13 : decode cJ5_getChars_4 13 = .ok (.iconst 0, 1) := dk_3 (dk_at dksJ5_getChars_4_0 13 rfl rfl)
theorem dJ5_getChars_4_14 : decode cJ5_getChars_4 14 = .ok (.istore 8, 2) := dk_54 8 (dk_at dksJ5_getChars_4_0 14 rfl rfl)
theorem dJ5_getChars_4_16 : decode cJ5_getChars_4 16 = .ok (.iload 8, 2) := dk_21 8 (dk_at dksJ5_getChars_4_0 16 rfl rfl)
theorem dJ5_getChars_4_18 : decode cJ5_getChars_4 18 = .ok (.ifCond .ne 6, 3) := dk_154 0 6 (dk_at dksJ5_getChars_4_0 18 rfl rfl)
theorem dJ5_getChars_4_21 : decode cJ5_getChars_4 21 = .ok (.lload_n 0, 1) := dk_30 (dk_at dksJ5_getChars_4_0 21 rfl rfl)
theorem dJ5_getChars_4_22 : decode cJ5_getChars_4 22 = .ok (.lneg, 1) := dk_117 (dk_at dksJ5_getChars_4_0 22 rfl rfl)
theorem dJ5_getChars_4_23 : decode cJ5_getChars_4 23 = .ok (.lstore_n 0, 1) := dk_63 (dk_at dksJ5_getChars_4_0 23 rfl rfl)
theorem dJ5_getChars_4_24 : decode cJ5_getChars_4 24 = .ok (.lload_n 0, 1) := dk_30 (dk_at dksJ5_getChars_4_1 0 rfl rfl)
theorem dJ5_getChars_4_25 : decode cJ5_getChars_4 25 = .ok (.ldc2_w 410, 3) := dk_20 1 154 (dk_at dksJ5_getChars_4_1 1 rfl rfl)
theorem dJ5_getChars_4_28 : decode cJ5_getChars_4 28 = .ok (.lcmp, 1) := dk_148 (dk_at dksJ5_getChars_4_1 4 rfl rfl)
theorem dJ5_getChars_4_29 : decode cJ5_getChars_4 29 = .ok (.ifCond .gt 57, 3) := dk_157 0 57 (dk_at dksJ5_getChars_4_1 5 rfl rfl)
theorem dJ5_getChars_4_32 : decode cJ5_getChars_4 32 = .ok (.lload_n 0, 1) := dk_30 (dk_at dksJ5_getChars_4_1 8 rfl rfl)
theorem dJ5_getChars_4_33 : decode cJ5_getChars_4 33 = .ok (.ldc2_w 412, 3) := dk_20 1 156 (dk_at dksJ5_getChars_4_1 9 rfl rfl)
theorem dJ5_getChars_4_36 : decode cJ5_getChars_4 36 = .ok (.ldiv, 1) := dk_109 (dk_at dksJ5_getChars_4_1 12 rfl rfl)
theorem dJ5_getChars_4_37 : decode cJ5_getChars_4 37 = .ok (.lstore 4, 2) := dk_55 4 (dk_at dksJ5_getChars_4_1 13 rfl rfl)
theorem dJ5_getChars_4_39 : decode cJ5_getChars_4 39 = .ok (.lload 4, 2) := dk_22 4 (dk_at dksJ5_getChars_4_1 15 rfl rfl)
theorem dJ5_getChars_4_41 : decode cJ5_getChars_4 41 = .ok (.ldc2_w 412, 3) := dk_20 1 156 (dk_at dksJ5_getChars_4_1 17 rfl rfl)
theorem dJ5_getChars_4_44 : decode cJ5_getChars_4 44 = .ok (.lmul, 1) := dk_105 (dk_at dksJ5_getChars_4_1 20 rfl rfl)
theorem dJ5_getChars_4_45 : decode cJ5_getChars_4 45 = .ok (.lload_n 0, 1) := dk_30 (dk_at dksJ5_getChars_4_1 21 rfl rfl)
theorem dJ5_getChars_4_46 : decode cJ5_getChars_4 46 = .ok (.lsub, 1) := dk_101 (dk_at dksJ5_getChars_4_1 22 rfl rfl)
theorem dJ5_getChars_4_47 : decode cJ5_getChars_4 47 = .ok (.l2i, 1) := dk_136 (dk_at dksJ5_getChars_4_1 23 rfl rfl)
theorem dJ5_getChars_4_48 : decode cJ5_getChars_4 48 = .ok (.istore 6, 2) := dk_54 6 (dk_at dksJ5_getChars_4_2 0 rfl rfl)
theorem dJ5_getChars_4_50 : decode cJ5_getChars_4 50 = .ok (.lload 4, 2) := dk_22 4 (dk_at dksJ5_getChars_4_2 2 rfl rfl)
theorem dJ5_getChars_4_52 : decode cJ5_getChars_4 52 = .ok (.lstore_n 0, 1) := dk_63 (dk_at dksJ5_getChars_4_2 4 rfl rfl)
theorem dJ5_getChars_4_53 : decode cJ5_getChars_4 53 = .ok (.aload_n 3, 1) := dk_45 (dk_at dksJ5_getChars_4_2 5 rfl rfl)
theorem dJ5_getChars_4_54 : decode cJ5_getChars_4 54 = .ok (.iinc 7 (-1), 3) := dk_132 7 255 (dk_at dksJ5_getChars_4_2 6 rfl rfl)
theorem dJ5_getChars_4_57 : decode cJ5_getChars_4 57 = .ok (.iload 7, 2) := dk_21 7 (dk_at dksJ5_getChars_4_2 9 rfl rfl)
theorem dJ5_getChars_4_59 : decode cJ5_getChars_4 59 = .ok (.getstatic 403, 3) := dk_178 1 147 (dk_at dksJ5_getChars_4_2 11 rfl rfl)
theorem dJ5_getChars_4_62 : decode cJ5_getChars_4 62 = .ok (.iload 6, 2) := dk_21 6 (dk_at dksJ5_getChars_4_2 14 rfl rfl)
theorem dJ5_getChars_4_64 : decode cJ5_getChars_4 64 = .ok (.baload, 1) := dk_51 (dk_at dksJ5_getChars_4_2 16 rfl rfl)
theorem dJ5_getChars_4_65 : decode cJ5_getChars_4 65 = .ok (.invokestatic 111, 3) := dk_184 0 111 (dk_at dksJ5_getChars_4_2 17 rfl rfl)
theorem dJ5_getChars_4_68 : decode cJ5_getChars_4 68 = .ok (.aload_n 3, 1) := dk_45 (dk_at dksJ5_getChars_4_2 20 rfl rfl)
theorem dJ5_getChars_4_69 : decode cJ5_getChars_4 69 = .ok (.iinc 7 (-1), 3) := dk_132 7 255 (dk_at dksJ5_getChars_4_2 21 rfl rfl)
theorem dJ5_getChars_4_72 : decode cJ5_getChars_4 72 = .ok (.iload 7, 2) := dk_21 7 (dk_at dksJ5_getChars_4_3 0 rfl rfl)
theorem dJ5_getChars_4_74 : decode cJ5_getChars_4 74 = .ok (.getstatic 407, 3) := dk_178 1 151 (dk_at dksJ5_getChars_4_3 2 rfl rfl)
theorem dJ5_getChars_4_77 : decode cJ5_getChars_4 77 = .ok (.iload 6, 2) := dk_21 6 (dk_at dksJ5_getChars_4_3 5 rfl rfl)
theorem dJ5_getChars_4_79 : decode cJ5_getChars_4 79 = .ok (.baload, 1) := dk_51 (dk_at dksJ5_getChars_4_3 7 rfl rfl)
theorem dJ5_getChars_4_80 : decode cJ5_getChars_4 80 = .ok (.invokestatic 111, 3) := dk_184 0 111 (dk_at dksJ5_getChars_4_3 8 rfl rfl)
theorem dJ5_getChars_4_83 : decode cJ5_getChars_4 83 = .ok (.goto (-59), 3) := dk_167 255 197 (dk_at dksJ5_getChars_4_3 11 rfl rfl)
theorem dJ5_getChars_4_86 : decode cJ5_getChars_4 86 = .ok (.lload_n 0, 1) := dk_30 (dk_at dksJ5_getChars_4_3 14 rfl rfl)
theorem dJ5_getChars_4_87 : decode cJ5_getChars_4 87 = .ok (.l2i, 1) := dk_136 (dk_at dksJ5_getChars_4_3 15 rfl rfl)
theorem dJ5_getChars_4_88 : decode cJ5_getChars_4 88 = .ok (.istore 10, 2) := dk_54 10 (dk_at dksJ5_getChars_4_3 16 rfl rfl)
theorem dJ5_getChars_4_90 : decode cJ5_getChars_4 90 = .ok (.iload 10, 2) := dk_21 10 (dk_at dksJ5_getChars_4_3 18 rfl rfl)
theorem dJ5_getChars_4_92 : decode cJ5_getChars_4 92 = .ok (.bipush (-100), 2) := dk_16 156 (dk_at dksJ5_getChars_4_3 20 rfl rfl)
theorem dJ5_getChars_4_94 : decode cJ5_getChars_4 94 = .ok (.if_icmp .gt 57, 3) := dk_163 0 57 (dk_at dksJ5_getChars_4_4 0 rfl rfl)
theorem dJ5_getChars_4_97 : decode cJ5_getChars_4 97 = .ok (.iload 10, 2) := dk_21 10 (dk_at dksJ5_getChars_4_4 3 rfl rfl)
theorem dJ5_getChars_4_99 : decode cJ5_getChars_4 99 = .ok (.bipush 100, 2) := dk_16 100 (dk_at dksJ5_getChars_4_4 5 rfl rfl)
theorem dJ5_getChars_4_101 : decode cJ5_getChars_4 101 = .ok (.idiv, 1) := dk_108 (dk_at dksJ5_getChars_4_4 7 rfl rfl)
theorem dJ5_getChars_4_102 : decode cJ5_getChars_4 102 = .ok (.istore 9, 2) := dk_54 9 (dk_at dksJ5_getChars_4_4 8 rfl rfl)
theorem dJ5_getChars_4_104 : decode cJ5_getChars_4 104 = .ok (.iload 9, 2) := dk_21 9 (dk_at dksJ5_getChars_4_4 10 rfl rfl)
theorem dJ5_getChars_4_106 : decode cJ5_getChars_4 106 = .ok (.bipush 100, 2) := dk_16 100 (dk_at dksJ5_getChars_4_4 12 rfl rfl)
theorem dJ5_getChars_4_108 : decode cJ5_getChars_4 108 = .ok (.imul, 1) := dk_104 (dk_at dksJ5_getChars_4_4 14 rfl rfl)
theorem dJ5_getChars_4_109 : decode cJ5_getChars_4 109 = .ok (.iload 10, 2) := dk_21 10 (dk_at dksJ5_getChars_4_4 15 rfl rfl)
theorem dJ5_getChars_4_111 : decode cJ5_getChars_4 111 = .ok (.isub, 1) := dk_100 (dk_at dksJ5_getChars_4_4 17 rfl rfl)
theorem dJ5_getChars_4_112 : decode cJ5_getChars_4 112 = .ok (.istore 6, 2) := dk_54 6 (dk_at dksJ5_getChars_4_4 18 rfl rfl)
theorem dJ5_getChars_4_114 : decode cJ5_getChars_4 114 = .ok (.iload 9, 2) := dk_21 9 (dk_at dksJ5_getChars_4_4 20 rfl rfl)
theorem dJ5_getChars_4_116 : decode cJ5_getChars_4 116 = .ok (.istore 10, 2) := dk_54 10 (dk_at dksJ5_getChars_4_4 22 rfl rfl)
theorem dJ5_getChars_4_118 : decode cJ5_getChars_4 118 = .ok (.aload_n 3, 1) := dk_45 (dk_at dksJ5_getChars_4_5 0 rfl rfl)
theorem dJ5_getChars_4_119 : decode cJ5_getChars_4 119 = .ok (.iinc 7 (-1), 3) := dk_132 7 255 (dk_at dksJ5_getChars_4_5 1 rfl rfl)
theorem dJ5_getChars_4_122 : decode cJ5_getChars_4 122 = .ok (.iload 7, 2) := dk_21 7 (dk_at dksJ5_getChars_4_5 4 rfl rfl)
theorem dJ5_getChars_4_124 : decode cJ5_getChars_4 124 = .ok (.getstatic 403, 3) := dk_178 1 147 (dk_at dksJ5_getChars_4_5 6 rfl rfl)
theorem dJ5_getChars_4_127 : decode cJ5_getChars_4 127 = .ok (.iload 6, 2) := dk_21 6 (dk_at dksJ5_getChars_4_5 9 rfl rfl)
theorem dJ5_getChars_4_129 : decode cJ5_getChars_4 129 = .ok (.baload, 1) := dk_51 (dk_at dksJ5_getChars_4_5 11 rfl rfl)
theorem dJ5_getChars_4_130 : decode cJ5_getChars_4 130 = .ok (.invokestatic 111, 3) := dk_184 0 111 (dk_at dksJ5_getChars_4_5 12 rfl rfl)
theorem dJ5_getChars_4_133 : decode cJ5_getChars_4 133 = .ok (.aload_n 3, 1) := dk_45 (dk_at dksJ5_getChars_4_5 15 rfl rfl)
theorem dJ5_getChars_4_134 : decode cJ5_getChars_4 134 = .ok (.iinc 7 (-1), 3) := dk_132 7 255 (dk_at dksJ5_getChars_4_5 16 rfl rfl)
theorem dJ5_getChars_4_137 : decode cJ5_getChars_4 137 = .ok (.iload 7, 2) := dk_21 7 (dk_at dksJ5_getChars_4_5 19 rfl rfl)
theorem dJ5_getChars_4_139 : decode cJ5_getChars_4 139 = .ok (.getstatic 407, 3) := dk_178 1 151 (dk_at dksJ5_getChars_4_5 21 rfl rfl)
theorem dJ5_getChars_4_142 : decode cJ5_getChars_4 142 = .ok (.iload 6, 2) := dk_21 6 (dk_at dksJ5_getChars_4_6 0 rfl rfl)
theorem dJ5_getChars_4_144 : decode cJ5_getChars_4 144 = .ok (.baload, 1) := dk_51 (dk_at dksJ5_getChars_4_6 2 rfl rfl)
theorem dJ5_getChars_4_145 : decode cJ5_getChars_4 145 = .ok (.invokestatic 111, 3) := dk_184 0 111 (dk_at dksJ5_getChars_4_6 3 rfl rfl)
theorem dJ5_getChars_4_148 : decode cJ5_getChars_4 148 = .ok (.goto (-58), 3) := dk_167 255 198 (dk_at dksJ5_getChars_4_6 6 rfl rfl)
theorem dJ5_getChars_4_151 : decode cJ5_getChars_4 151 = .ok (.aload_n 3, 1) := dk_45 (dk_at dksJ5_getChars_4_6 9 rfl rfl)
theorem dJ5_getChars_4_152 : decode cJ5_getChars_4 152 = .ok (.iinc 7 (-1), 3) := dk_132 7 255 (dk_at dksJ5_getChars_4_6 10 rfl rfl)
theorem dJ5_getChars_4_155 : decode cJ5_getChars_4 155 = .ok (.iload 7, 2) := dk_21 7 (dk_at dksJ5_getChars_4_6 13 rfl rfl)
theorem dJ5_getChars_4_157 : decode cJ5_getChars_4 157 = .ok (.getstatic 403, 3) := dk_178 1 147 (dk_at dksJ5_getChars_4_6 15 rfl rfl)
theorem dJ5_getChars_4_160 : decode cJ5_getChars_4 160 = .ok (.iload 10, 2) := dk_21 10 (dk_at dksJ5_getChars_4_6 18 rfl rfl)
theorem dJ5_getChars_4_162 : decode cJ5_getChars_4 162 = .ok (.ineg, 1) := dk_116 (dk_at dksJ5_getChars_4_6 20 rfl rfl)
theorem dJ5_getChars_4_163 : decode cJ5_getChars_4 163 = .ok (.baload, 1) := dk_51 (dk_at dksJ5_getChars_4_6 21 rfl rfl)
theorem dJ5_getChars_4_164 : decode cJ5_getChars_4 164 = .ok (.invokestatic 111, 3) := dk_184 0 111 (dk_at dksJ5_getChars_4_7 0 rfl rfl)
theorem dJ5_getChars_4_167 : decode cJ5_getChars_4 167 = .ok (.iload 10, 2) := dk_21 10 (dk_at dksJ5_getChars_4_7 3 rfl rfl)
theorem dJ5_getChars_4_169 : decode cJ5_getChars_4 169 = .ok (.bipush (-9), 2) := dk_16 247 (dk_at dksJ5_getChars_4_7 5 rfl rfl)
theorem dJ5_getChars_4_171 : decode cJ5_getChars_4 171 = .ok (.if_icmp .ge 19, 3) := dk_162 0 19 (dk_at dksJ5_getChars_4_7 7 rfl rfl)
theorem dJ5_getChars_4_174 : decode cJ5_getChars_4 174 = .ok (.aload_n 3, 1) := dk_45 (dk_at dksJ5_getChars_4_7 10 rfl rfl)
theorem dJ5_getChars_4_175 : decode cJ5_getChars_4 175 = .ok (.iinc 7 (-1), 3) := dk_132 7 255 (dk_at dksJ5_getChars_4_7 11 rfl rfl)
theorem dJ5_getChars_4_178 : decode cJ5_getChars_4 178 = .ok (.iload 7, 2) := dk_21 7 (dk_at dksJ5_getChars_4_7 14 rfl rfl)
theorem dJ5_getChars_4_180 : decode cJ5_getChars_4 180 = .ok (.getstatic 407, 3) := dk_178 1 151 (dk_at dksJ5_getChars_4_7 16 rfl rfl)
theorem dJ5_getChars_4_183 : decode cJ5_getChars_4 183 = .ok (.iload 10, 2) := dk_21 10 (dk_at dksJ5_getChars_4_7 19 rfl rfl)
theorem dJ5_getChars_4_185 : decode cJ5_getChars_4 185 = .ok (.ineg, 1) := dk_116 (dk_at dksJ5_getChars_4_7 21 rfl rfl)
theorem dJ5_getChars_4_186 : decode cJ5_getChars_4 186 = .ok (.baload, 1) := dk_51 (dk_at dksJ5_getChars_4_7 22 rfl rfl)
theorem dJ5_getChars_4_187 : decode cJ5_getChars_4 187 = .ok (.invokestatic 111, 3) := dk_184 0 111 (dk_at dksJ5_getChars_4_8 0 rfl rfl)
theorem dJ5_getChars_4_190 : decode cJ5_getChars_4 190 = .ok (.iload 8, 2) := dk_21 8 (dk_at dksJ5_getChars_4_8 3 rfl rfl)
theorem dJ5_getChars_4_192 : decode cJ5_getChars_4 192 = .ok (.ifCond .eq 14, 3) := dk_153 0 14 (dk_at dksJ5_getChars_4_8 5 rfl rfl)
theorem dJ5_getChars_4_195 : decode cJ5_getChars_4 195 = .ok (.aload_n 3, 1) := dk_45 (dk_at dksJ5_getChars_4_8 8 rfl rfl)
theorem dJ5_getChars_4_196 : decode cJ5_getChars_4 196 = .ok (.iinc 7 (-1), 3) := dk_132 7 255 (dk_at dksJ5_getChars_4_8 9 rfl rfl)
theorem dJ5_getChars_4_199 : decode cJ5_getChars_4 199 = .ok (.iload 7, 2) := dk_21 7 (dk_at dksJ5_getChars_4_8 12 rfl rfl)
theorem dJ5_getChars_4_201 : decode cJ5_getChars_4 201 = .ok (.bipush 45, 2) := dk_16 45 (dk_at dksJ5_getChars_4_8 14 rfl rfl)
theorem dJ5_getChars_4_203 : decode cJ5_getChars_4 203 = .ok (.invokestatic 111, 3) := dk_184 0 111 (dk_at dksJ5_getChars_4_8 16 rfl rfl)
theorem dJ5_getChars_4_206 : decode cJ5_getChars_4 206 = .ok (.iload 7, 2) := dk_21 7 (dk_at dksJ5_getChars_4_8 19 rfl rfl)
theorem dJ5_getChars_4_208 : decode cJ5_getChars_4 208 = .ok (.ireturn, 1) := dk_172 (dk_at dksJ5_getChars_4_8 21 rfl rfl)
abbrev cJ5_charAt : ByteArray := prog_38_method_83_code
def yJ5_charAt : MethodName := ⟨RJ5, "charAt", "([BI)C"⟩
def dkwJ5_charAt_0 : List UInt8 := [27, 42, 184, 0, 67, 42, 27, 184, 0, 71, 172]
abbrev dktJ5_charAt_0 : List UInt8 := dkwJ5_charAt_0 ++ []
theorem dksJ5_charAt_0 : cJ5_charAt.data.toList.drop 0 = dktJ5_charAt_0 := by decide +kernel
theorem dJ5_charAt_0 : decode cJ5_charAt 0 = .ok (.iload_n 1, 1) := dk_27 (dk_at dksJ5_charAt_0 0 rfl rfl)
theorem dJ5_charAt_1 : decode cJ5_charAt 1 = .ok (.aload_n 0, 1) := dk_42 (dk_at dksJ5_charAt_0 1 rfl rfl)
theorem dJ5_charAt_2 : decode cJ5_charAt 2 = .ok (.invokestatic 67, 3) := dk_184 0 67 (dk_at dksJ5_charAt_0 2 rfl rfl)
theorem dJ5_charAt_5 : decode cJ5_charAt 5 = .ok (.aload_n 0, 1) := dk_42 (dk_at dksJ5_charAt_0 5 rfl rfl)
theorem dJ5_charAt_6 : decode cJ5_charAt 6 = .ok (.iload_n 1, 1) := dk_27 (dk_at dksJ5_charAt_0 6 rfl rfl)
theorem dJ5_charAt_7 : decode cJ5_charAt 7 = .ok (.invokestatic 71, 3) := dk_184 0 71 (dk_at dksJ5_charAt_0 7 rfl rfl)
theorem dJ5_charAt_10 : decode cJ5_charAt 10 = .ok (.ireturn, 1) := dk_172 (dk_at dksJ5_charAt_0 10 rfl rfl)

/-! decode rows: J6.java_lang_Throwable.lean.txt -/
set_option maxRecDepth 100000
abbrev cJ6_init : ByteArray := prog_41_method_2_code
def yJ6_init : MethodName := ⟨RJ6, "<init>", "(Ljava/lang/String;)V"⟩
def dkwJ6_init_1 : List UInt8 := [182, 0, 27, 87, 42, 43, 181, 0, 31, 177]
abbrev dktJ6_init_1 : List UInt8 := dkwJ6_init_1 ++ []
def dkwJ6_init_0 : List UInt8 := [42, 183, 0, 1, 42, 42, 181, 0, 7, 42, 178, 0, 13, 181, 0, 17, 42, 178, 0, 20, 181, 0, 24, 42]
abbrev dktJ6_init_0 : List UInt8 := dkwJ6_init_0 ++ dktJ6_init_1
theorem dksJ6_init_0 : cJ6_init.data.toList.drop 0 = dktJ6_init_0 := by decide +kernel
theorem dksJ6_init_1 : cJ6_init.data.toList.drop 24 = dktJ6_init_1 := dk_seg dksJ6_init_0 24 rfl rfl
theorem dJ6_init_0 : decode cJ6_init 0 = .ok (.aload_n 0, 1) := dk_42 (dk_at dksJ6_init_0 0 rfl rfl)
theorem dJ6_init_1 : decode cJ6_init 1 = .ok (.invokespecial 1, 3) := dk_183 0 1 (dk_at dksJ6_init_0 1 rfl rfl)
theorem dJ6_init_4 : decode cJ6_init 4 = .ok (.aload_n 0, 1) := dk_42 (dk_at dksJ6_init_0 4 rfl rfl)
theorem dJ6_init_5 : decode cJ6_init 5 = .ok (.aload_n 0, 1) := dk_42 (dk_at dksJ6_init_0 5 rfl rfl)
theorem dJ6_init_6 : decode cJ6_init 6 = .ok (.putfield 7, 3) := dk_181 0 7 (dk_at dksJ6_init_0 6 rfl rfl)
theorem dJ6_init_9 : decode cJ6_init 9 = .ok (.aload_n 0, 1) := dk_42 (dk_at dksJ6_init_0 9 rfl rfl)
theorem dJ6_init_10 : decode cJ6_init 10 = .ok (.getstatic 13, 3) := dk_178 0 13 (dk_at dksJ6_init_0 10 rfl rfl)
theorem dJ6_init_13 : decode cJ6_init 13 = .ok (.putfield 17, 3) := dk_181 0 17 (dk_at dksJ6_init_0 13 rfl rfl)
theorem dJ6_init_16 : decode cJ6_init 16 = .ok (.aload_n 0, 1) := dk_42 (dk_at dksJ6_init_0 16 rfl rfl)
theorem dJ6_init_17 : decode cJ6_init 17 = .ok (.getstatic 20, 3) := dk_178 0 20 (dk_at dksJ6_init_0 17 rfl rfl)
theorem dJ6_init_20 : decode cJ6_init 20 = .ok (.putfield 24, 3) := dk_181 0 24 (dk_at dksJ6_init_0 20 rfl rfl)
theorem dJ6_init_23 : decode cJ6_init 23 = .ok (.aload_n 0, 1) := dk_42 (dk_at dksJ6_init_0 23 rfl rfl)
theorem dJ6_init_24 : decode cJ6_init 24 = .ok (.invokevirtual 27, 3) := dk_182 0 27 (dk_at dksJ6_init_1 0 rfl rfl)
theorem dJ6_init_27 : decode cJ6_init 27 = .ok (.pop, 1) := dk_87 (dk_at dksJ6_init_1 3 rfl rfl)
theorem dJ6_init_28 : decode cJ6_init 28 = .ok (.aload_n 0, 1) := dk_42 (dk_at dksJ6_init_1 4 rfl rfl)
theorem dJ6_init_29 : decode cJ6_init 29 = .ok (.aload_n 1, 1) := dk_43 (dk_at dksJ6_init_1 5 rfl rfl)
theorem dJ6_init_30 : decode cJ6_init 30 = .ok (.putfield 31, 3) := dk_181 0 31 (dk_at dksJ6_init_1 6 rfl rfl)
theorem dJ6_init_33 : decode cJ6_init 33 = .ok (.return_, 1) := dk_177 (dk_at dksJ6_init_1 9 rfl rfl)
abbrev cJ6_init_2 : ByteArray := prog_41_method_1_code
def yJ6_init_2 : MethodName := ⟨RJ6, "<init>", "()V"⟩
def dkwJ6_init_2_1 : List UInt8 := [182, 0, 27, 87, 177]
abbrev dktJ6_init_2_1 : List UInt8 := dkwJ6_init_2_1 ++ []
def dkwJ6_init_2_0 : List UInt8 := [42, 183, 0, 1, 42, 42, 181, 0, 7, 42, 178, 0, 13, 181, 0, 17, 42, 178, 0, 20, 181, 0, 24, 42]
abbrev dktJ6_init_2_0 : List UInt8 := dkwJ6_init_2_0 ++ dktJ6_init_2_1
theorem dksJ6_init_2_0 : cJ6_init_2.data.toList.drop 0 = dktJ6_init_2_0 := by decide +kernel
theorem dksJ6_init_2_1 : cJ6_init_2.data.toList.drop 24 = dktJ6_init_2_1 := dk_seg dksJ6_init_2_0 24 rfl rfl
theorem dJ6_init_2_0 : decode cJ6_init_2 0 = .ok (.aload_n 0, 1) := dk_42 (dk_at dksJ6_init_2_0 0 rfl rfl)
theorem dJ6_init_2_1 : decode cJ6_init_2 1 = .ok (.invokespecial 1, 3) := dk_183 0 1 (dk_at dksJ6_init_2_0 1 rfl rfl)
theorem dJ6_init_2_4 : decode cJ6_init_2 4 = .ok (.aload_n 0, 1) := dk_42 (dk_at dksJ6_init_2_0 4 rfl rfl)
theorem dJ6_init_2_5 : decode cJ6_init_2 5 = .ok (.aload_n 0, 1) := dk_42 (dk_at dksJ6_init_2_0 5 rfl rfl)
theorem dJ6_init_2_6 : decode cJ6_init_2 6 = .ok (.putfield 7, 3) := dk_181 0 7 (dk_at dksJ6_init_2_0 6 rfl rfl)
theorem dJ6_init_2_9 : decode cJ6_init_2 9 = .ok (.aload_n 0, 1) := dk_42 (dk_at dksJ6_init_2_0 9 rfl rfl)
theorem dJ6_init_2_10 : decode cJ6_init_2 10 = .ok (.getstatic 13, 3) := dk_178 0 13 (dk_at dksJ6_init_2_0 10 rfl rfl)
theorem dJ6_init_2_13 : decode cJ6_init_2 13 = .ok (.putfield 17, 3) := dk_181 0 17 (dk_at dksJ6_init_2_0 13 rfl rfl)
theorem dJ6_init_2_16 : decode cJ6_init_2 16 = .ok (.aload_n 0, 1) := dk_42 (dk_at dksJ6_init_2_0 16 rfl rfl)
theorem dJ6_init_2_17 : decode cJ6_init_2 17 = .ok (.getstatic 20, 3) := dk_178 0 20 (dk_at dksJ6_init_2_0 17 rfl rfl)
theorem dJ6_init_2_20 : decode cJ6_init_2 20 = .ok (.putfield 24, 3) := dk_181 0 24 (dk_at dksJ6_init_2_0 20 rfl rfl)
theorem dJ6_init_2_23 : decode cJ6_init_2 23 = .ok (.aload_n 0, 1) := dk_42 (dk_at dksJ6_init_2_0 23 rfl rfl)
theorem dJ6_init_2_24 : decode cJ6_init_2 24 = .ok (.invokevirtual 27, 3) := dk_182 0 27 (dk_at dksJ6_init_2_1 0 rfl rfl)
theorem dJ6_init_2_27 : decode cJ6_init_2 27 = .ok (.pop, 1) := dk_87 (dk_at dksJ6_init_2_1 3 rfl rfl)
theorem dJ6_init_2_28 : decode cJ6_init_2 28 = .ok (.return_, 1) := dk_177 (dk_at dksJ6_init_2_1 4 rfl rfl)
abbrev cJ6_init_3 : ByteArray := prog_41_method_5_code
def yJ6_init_3 : MethodName := ⟨RJ6, "<init>", "(Ljava/lang/String;Ljava/lang/Throwable;ZZ)V"⟩
def dkwJ6_init_3_2 : List UInt8 := [44, 181, 0, 7, 29, 154, 0, 8, 42, 1, 181, 0, 24, 177]
abbrev dktJ6_init_3_2 : List UInt8 := dkwJ6_init_3_2 ++ []
def dkwJ6_init_3_1 : List UInt8 := [21, 4, 153, 0, 11, 42, 182, 0, 27, 87, 167, 0, 8, 42, 1, 181, 0, 17, 42, 43, 181, 0, 31, 42]
abbrev dktJ6_init_3_1 : List UInt8 := dkwJ6_init_3_1 ++ dktJ6_init_3_2
def dkwJ6_init_3_0 : List UInt8 := [42, 183, 0, 1, 42, 42, 181, 0, 7, 42, 178, 0, 13, 181, 0, 17, 42, 178, 0, 20, 181, 0, 24]
abbrev dktJ6_init_3_0 : List UInt8 := dkwJ6_init_3_0 ++ dktJ6_init_3_1
theorem dksJ6_init_3_0 : cJ6_init_3.data.toList.drop 0 = dktJ6_init_3_0 := by decide +kernel
theorem dksJ6_init_3_1 : cJ6_init_3.data.toList.drop 23 = dktJ6_init_3_1 := dk_seg dksJ6_init_3_0 23 rfl rfl
theorem dksJ6_init_3_2 : cJ6_init_3.data.toList.drop 47 = dktJ6_init_3_2 := dk_seg dksJ6_init_3_1 24 rfl rfl
theorem dJ6_init_3_0 : decode cJ6_init_3 0 = .ok (.aload_n 0, 1) := dk_42 (dk_at dksJ6_init_3_0 0 rfl rfl)
theorem dJ6_init_3_1 : decode cJ6_init_3 1 = .ok (.invokespecial 1, 3) := dk_183 0 1 (dk_at dksJ6_init_3_0 1 rfl rfl)
theorem dJ6_init_3_4 : decode cJ6_init_3 4 = .ok (.aload_n 0, 1) := dk_42 (dk_at dksJ6_init_3_0 4 rfl rfl)
theorem dJ6_init_3_5 : decode cJ6_init_3 5 = .ok (.aload_n 0, 1) := dk_42 (dk_at dksJ6_init_3_0 5 rfl rfl)
theorem dJ6_init_3_6 : decode cJ6_init_3 6 = .ok (.putfield 7, 3) := dk_181 0 7 (dk_at dksJ6_init_3_0 6 rfl rfl)
theorem dJ6_init_3_9 : decode cJ6_init_3 9 = .ok (.aload_n 0, 1) := dk_42 (dk_at dksJ6_init_3_0 9 rfl rfl)
theorem dJ6_init_3_10 : decode cJ6_init_3 10 = .ok (.getstatic 13, 3) := dk_178 0 13 (dk_at dksJ6_init_3_0 10 rfl rfl)
theorem dJ6_init_3_13 : decode cJ6_init_3 13 = .ok (.putfield 17, 3) := dk_181 0 17 (dk_at dksJ6_init_3_0 13 rfl rfl)
theorem dJ6_init_3_16 : decode cJ6_init_3 16 = .ok (.aload_n 0, 1) := dk_42 (dk_at dksJ6_init_3_0 16 rfl rfl)
theorem dJ6_init_3_17 : decode cJ6_init_3 17 = .ok (.getstatic 20, 3) := dk_178 0 20 (dk_at dksJ6_init_3_0 17 rfl rfl)
theorem dJ6_init_3_20 : decode cJ6_init_3 20 = .ok (.putfield 24, 3) := dk_181 0 24 (dk_at dksJ6_init_3_0 20 rfl rfl)
theorem dJ6_init_3_23 : decode cJ6_init_3 23 = .ok (.iload 4, 2) := dk_21 4 (dk_at dksJ6_init_3_1 0 rfl rfl)
theorem dJ6_init_3_25 : decode cJ6_init_3 25 = .ok (.ifCond .eq 11, 3) := dk_153 0 11 (dk_at dksJ6_init_3_1 2 rfl rfl)
theorem dJ6_init_3_28 : decode cJ6_init_3 28 = .ok (.aload_n 0, 1) := dk_42 (dk_at dksJ6_init_3_1 5 rfl rfl)
theorem dJ6_init_3_29 : decode cJ6_init_3 29 = .ok (.invokevirtual 27, 3) := dk_182 0 27 (dk_at dksJ6_init_3_1 6 rfl rfl)
theorem dJ6_init_3_32 : decode cJ6_init_3 32 = .ok (.pop, 1) := dk_87 (dk_at dksJ6_init_3_1 9 rfl rfl)
theorem dJ6_init_3_33 : decode cJ6_init_3 33 = .ok (.goto 8, 3) := dk_167 0 8 (dk_at dksJ6_init_3_1 10 rfl rfl)
theorem dJ6_init_3_36 : decode cJ6_init_3 36 = .ok (.aload_n 0, 1) := dk_42 (dk_at dksJ6_init_3_1 13 rfl rfl)
theorem dJ6_init_3_37 : decode cJ6_init_3 37 = .ok (.aconst_null, 1) := dk_1 (dk_at dksJ6_init_3_1 14 rfl rfl)
theorem dJ6_init_3_38 : decode cJ6_init_3 38 = .ok (.putfield 17, 3) := dk_181 0 17 (dk_at dksJ6_init_3_1 15 rfl rfl)
theorem dJ6_init_3_41 : decode cJ6_init_3 41 = .ok (.aload_n 0, 1) := dk_42 (dk_at dksJ6_init_3_1 18 rfl rfl)
theorem dJ6_init_3_42 : decode cJ6_init_3 42 = .ok (.aload_n 1, 1) := dk_43 (dk_at dksJ6_init_3_1 19 rfl rfl)
theorem dJ6_init_3_43 : decode cJ6_init_3 43 = .ok (.putfield 31, 3) := dk_181 0 31 (dk_at dksJ6_init_3_1 20 rfl rfl)
theorem dJ6_init_3_46 : decode cJ6_init_3 46 = .ok (.aload_n 0, 1) := dk_42 (dk_at dksJ6_init_3_1 23 rfl rfl)
theorem dJ6_init_3_47 : decode cJ6_init_3 47 = .ok (.aload_n 2, 1) := dk_44 (dk_at dksJ6_init_3_2 0 rfl rfl)
theorem dJ6_init_3_48 : decode cJ6_init_3 48 = .ok (.putfield 7, 3) := dk_181 0 7 (dk_at dksJ6_init_3_2 1 rfl rfl)
theorem dJ6_init_3_51 : decode cJ6_init_3 51 = .ok (.iload_n 3, 1) := dk_29 (dk_at dksJ6_init_3_2 4 rfl rfl)
theorem dJ6_init_3_52 : decode cJ6_init_3 52 = .ok (.ifCond .ne 8, 3) := dk_154 0 8 (dk_at dksJ6_init_3_2 5 rfl rfl)
theorem dJ6_init_3_55 : decode cJ6_init_3 55 = .ok (.aload_n 0, 1) := dk_42 (dk_at dksJ6_init_3_2 8 rfl rfl)
theorem dJ6_init_3_56 : decode cJ6_init_3 56 = .ok (.aconst_null, 1) := dk_1 (dk_at dksJ6_init_3_2 9 rfl rfl)
theorem dJ6_init_3_57 : decode cJ6_init_3 57 = .ok (.putfield 24, 3) := dk_181 0 24 (dk_at dksJ6_init_3_2 10 rfl rfl)
theorem dJ6_init_3_60 : decode cJ6_init_3 60 = .ok (.return_, 1) := dk_177 (dk_at dksJ6_init_3_2 13 rfl rfl)
abbrev cJ6_init_4 : ByteArray := prog_41_method_4_code
def yJ6_init_4 : MethodName := ⟨RJ6, "<init>", "(Ljava/lang/Throwable;)V"⟩
def dkwJ6_init_4_2 : List UInt8 := [181, 0, 7, 177]
abbrev dktJ6_init_4_2 : List UInt8 := dkwJ6_init_4_2 ++ []
def dkwJ6_init_4_1 : List UInt8 := [182, 0, 27, 87, 42, 43, 199, 0, 7, 1, 167, 0, 7, 43, 182, 0, 35, 181, 0, 31, 42, 43]
abbrev dktJ6_init_4_1 : List UInt8 := dkwJ6_init_4_1 ++ dktJ6_init_4_2
def dkwJ6_init_4_0 : List UInt8 := [42, 183, 0, 1, 42, 42, 181, 0, 7, 42, 178, 0, 13, 181, 0, 17, 42, 178, 0, 20, 181, 0, 24, 42]
abbrev dktJ6_init_4_0 : List UInt8 := dkwJ6_init_4_0 ++ dktJ6_init_4_1
theorem dksJ6_init_4_0 : cJ6_init_4.data.toList.drop 0 = dktJ6_init_4_0 := by decide +kernel
theorem dksJ6_init_4_1 : cJ6_init_4.data.toList.drop 24 = dktJ6_init_4_1 := dk_seg dksJ6_init_4_0 24 rfl rfl
theorem dksJ6_init_4_2 : cJ6_init_4.data.toList.drop 46 = dktJ6_init_4_2 := dk_seg dksJ6_init_4_1 22 rfl rfl
theorem dJ6_init_4_0 : decode cJ6_init_4 0 = .ok (.aload_n 0, 1) := dk_42 (dk_at dksJ6_init_4_0 0 rfl rfl)
theorem dJ6_init_4_1 : decode cJ6_init_4 1 = .ok (.invokespecial 1, 3) := dk_183 0 1 (dk_at dksJ6_init_4_0 1 rfl rfl)
theorem dJ6_init_4_4 : decode cJ6_init_4 4 = .ok (.aload_n 0, 1) := dk_42 (dk_at dksJ6_init_4_0 4 rfl rfl)
theorem dJ6_init_4_5 : decode cJ6_init_4 5 = .ok (.aload_n 0, 1) := dk_42 (dk_at dksJ6_init_4_0 5 rfl rfl)
theorem dJ6_init_4_6 : decode cJ6_init_4 6 = .ok (.putfield 7, 3) := dk_181 0 7 (dk_at dksJ6_init_4_0 6 rfl rfl)
theorem dJ6_init_4_9 : decode cJ6_init_4 9 = .ok (.aload_n 0, 1) := dk_42 (dk_at dksJ6_init_4_0 9 rfl rfl)
theorem dJ6_init_4_10 : decode cJ6_init_4 10 = .ok (.getstatic 13, 3) := dk_178 0 13 (dk_at dksJ6_init_4_0 10 rfl rfl)
theorem dJ6_init_4_13 : decode cJ6_init_4 13 = .ok (.putfield 17, 3) := dk_181 0 17 (dk_at dksJ6_init_4_0 13 rfl rfl)
theorem dJ6_init_4_16 : decode cJ6_init_4 16 = .ok (.aload_n 0, 1) := dk_42 (dk_at dksJ6_init_4_0 16 rfl rfl)
theorem dJ6_init_4_17 : decode cJ6_init_4 17 = .ok (.getstatic 20, 3) := dk_178 0 20 (dk_at dksJ6_init_4_0 17 rfl rfl)
theorem dJ6_init_4_20 : decode cJ6_init_4 20 = .ok (.putfield 24, 3) := dk_181 0 24 (dk_at dksJ6_init_4_0 20 rfl rfl)
theorem dJ6_init_4_23 : decode cJ6_init_4 23 = .ok (.aload_n 0, 1) := dk_42 (dk_at dksJ6_init_4_0 23 rfl rfl)
theorem dJ6_init_4_24 : decode cJ6_init_4 24 = .ok (.invokevirtual 27, 3) := dk_182 0 27 (dk_at dksJ6_init_4_1 0 rfl rfl)
theorem dJ6_init_4_27 : decode cJ6_init_4 27 = .ok (.pop, 1) := dk_87 (dk_at dksJ6_init_4_1 3 rfl rfl)
theorem dJ6_init_4_28 : decode cJ6_init_4 28 = .ok (.aload_n 0, 1) := dk_42 (dk_at dksJ6_init_4_1 4 rfl rfl)
theorem dJ6_init_4_29 : decode cJ6_init_4 29 = .ok (.aload_n 1, 1) := dk_43 (dk_at dksJ6_init_4_1 5 rfl rfl)
theorem dJ6_init_4_30 : decode cJ6_init_4 30 = .ok (.ifnonnull 7, 3) := dk_199 0 7 (dk_at dksJ6_init_4_1 6 rfl rfl)
theorem dJ6_init_4_33 : decode cJ6_init_4 33 = .ok (.aconst_null, 1) := dk_1 (dk_at dksJ6_init_4_1 9 rfl rfl)
theorem dJ6_init_4_34 : decode cJ6_init_4 34 = .ok (.goto 7, 3) := dk_167 0 7 (dk_at dksJ6_init_4_1 10 rfl rfl)
theorem dJ6_init_4_37 : decode cJ6_init_4 37 = .ok (.aload_n 1, 1) := dk_43 (dk_at dksJ6_init_4_1 13 rfl rfl)
theorem dJ6_init_4_38 : decode cJ6_init_4 38 = .ok (.invokevirtual 35, 3) := dk_182 0 35 (dk_at dksJ6_init_4_1 14 rfl rfl)
theorem dJ6_init_4_41 : decode cJ6_init_4 41 = .ok (.putfield 31, 3) := dk_181 0 31 (dk_at dksJ6_init_4_1 17 rfl rfl)
theorem dJ6_init_4_44 : decode cJ6_init_4 44 = .ok (.aload_n 0, 1) := dk_42 (dk_at dksJ6_init_4_1 20 rfl rfl)
theorem dJ6_init_4_45 : decode cJ6_init_4 45 = .ok (.aload_n 1, 1) := dk_43 (dk_at dksJ6_init_4_1 21 rfl rfl)
theorem dJ6_init_4_46 : decode cJ6_init_4 46 = .ok (.putfield 7, 3) := dk_181 0 7 (dk_at dksJ6_init_4_2 0 rfl rfl)
theorem dJ6_init_4_49 : decode cJ6_init_4 49 = .ok (.return_, 1) := dk_177 (dk_at dksJ6_init_4_2 3 rfl rfl)
abbrev cJ6_toString : ByteArray := prog_41_method_11_code
def yJ6_toString : MethodName := ⟨RJ6, "toString", "()Ljava/lang/String;"⟩
def dkwJ6_toString_1 : List UInt8 := [43, 182, 0, 49, 18, 81, 182, 0, 49, 44, 182, 0, 49, 182, 0, 60, 167, 0, 4, 43, 176]
abbrev dktJ6_toString_1 : List UInt8 := dkwJ6_toString_1 ++ []
def dkwJ6_toString_0 : List UInt8 := [42, 182, 0, 69, 182, 0, 73, 76, 42, 182, 0, 78, 77, 44, 198, 0, 29, 187, 0, 44, 89, 183, 0, 46]
abbrev dktJ6_toString_0 : List UInt8 := dkwJ6_toString_0 ++ dktJ6_toString_1
theorem dksJ6_toString_0 : cJ6_toString.data.toList.drop 0 = dktJ6_toString_0 := by decide +kernel
theorem dksJ6_toString_1 : cJ6_toString.data.toList.drop 24 = dktJ6_toString_1 := dk_seg dksJ6_toString_0 24 rfl rfl
theorem dJ6_toString_0 : decode cJ6_toString 0 = .ok (.aload_n 0, 1) := dk_42 (dk_at dksJ6_toString_0 0 rfl rfl)
theorem dJ6_toString_1 : decode cJ6_toString 1 = .ok (.invokevirtual 69, 3) := dk_182 0 69 (dk_at dksJ6_toString_0 1 rfl rfl)
theorem dJ6_toString_4 : decode cJ6_toString 4 = .ok (.invokevirtual 73, 3) := dk_182 0 73 (dk_at dksJ6_toString_0 4 rfl rfl)
theorem dJ6_toString_7 : decode cJ6_toString 7 = .ok (.astore_n 1, 1) := dk_76 (dk_at dksJ6_toString_0 7 rfl rfl)
theorem dJ6_toString_8 : decode cJ6_toString 8 = .ok (.aload_n 0, 1) := dk_42 (dk_at dksJ6_toString_0 8 rfl rfl)
theorem dJ6_toString_9 : decode cJ6_toString 9 = .ok (.invokevirtual 78, 3) := dk_182 0 78 (dk_at dksJ6_toString_0 9 rfl rfl)
theorem dJ6_toString_12 : decode cJ6_toString 12 = .ok (.astore_n 2, 1) := dk_77 (dk_at dksJ6_toString_0 12 rfl rfl)
theorem dJ6_toString_13 : decode cJ6_toString 13 = .ok (.aload_n 2, 1) := dk_44 (dk_at dksJ6_toString_0 13 rfl rfl)
theorem dJ6_toString_14 : decode cJ6_toString 14 = .ok (.ifnull 29, 3) := dk_198 0 29 (dk_at dksJ6_toString_0 14 rfl rfl)
theorem dJ6_toString_17 : decode cJ6_toString 17 = .ok (.new 44, 3) := dk_187 0 44 (dk_at dksJ6_toString_0 17 rfl rfl)
theorem dJ6_toString_20 : decode cJ6_toString 20 = .ok (.dup, 1) := dk_89 (dk_at dksJ6_toString_0 20 rfl rfl)
theorem dJ6_toString_21 : decode cJ6_toString 21 = .ok (.invokespecial 46, 3) := dk_183 0 46 (dk_at dksJ6_toString_0 21 rfl rfl)
theorem dJ6_toString_24 : decode cJ6_toString 24 = .ok (.aload_n 1, 1) := dk_43 (dk_at dksJ6_toString_1 0 rfl rfl)
theorem dJ6_toString_25 : decode cJ6_toString 25 = .ok (.invokevirtual 49, 3) := dk_182 0 49 (dk_at dksJ6_toString_1 1 rfl rfl)
theorem dJ6_toString_28 : decode cJ6_toString 28 = .ok (.ldc 81, 2) := dk_18 81 (dk_at dksJ6_toString_1 4 rfl rfl)
theorem dJ6_toString_30 : decode cJ6_toString 30 = .ok (.invokevirtual 49, 3) := dk_182 0 49 (dk_at dksJ6_toString_1 6 rfl rfl)
theorem dJ6_toString_33 : decode cJ6_toString 33 = .ok (.aload_n 2, 1) := dk_44 (dk_at dksJ6_toString_1 9 rfl rfl)
theorem dJ6_toString_34 : decode cJ6_toString 34 = .ok (.invokevirtual 49, 3) := dk_182 0 49 (dk_at dksJ6_toString_1 10 rfl rfl)
theorem dJ6_toString_37 : decode cJ6_toString 37 = .ok (.invokevirtual 60, 3) := dk_182 0 60 (dk_at dksJ6_toString_1 13 rfl rfl)
theorem dJ6_toString_40 : decode cJ6_toString 40 = .ok (.goto 4, 3) := dk_167 0 4 (dk_at dksJ6_toString_1 16 rfl rfl)
theorem dJ6_toString_43 : decode cJ6_toString 43 = .ok (.aload_n 1, 1) := dk_43 (dk_at dksJ6_toString_1 19 rfl rfl)
theorem dJ6_toString_44 : decode cJ6_toString 44 = .ok (.areturn, 1) := dk_176 (dk_at dksJ6_toString_1 20 rfl rfl)
abbrev cJ6_getLocalizedMessage : ByteArray := prog_41_method_7_code
def yJ6_getLocalizedMessage : MethodName := ⟨RJ6, "getLocalizedMessage", "()Ljava/lang/String;"⟩
theorem dJ6_getLocalizedMessage_0 : decode cJ6_getLocalizedMessage 0 = .ok (.aload_n 0, 1) := by decide +kernel
theorem dJ6_getLocalizedMessage_1 : decode cJ6_getLocalizedMessage 1 = .ok (.invokevirtual 39, 3) := by decide +kernel
theorem dJ6_getLocalizedMessage_4 : decode cJ6_getLocalizedMessage 4 = .ok (.areturn, 1) := by decide +kernel
abbrev cJ6_getMessage : ByteArray := prog_41_method_6_code
def yJ6_getMessage : MethodName := ⟨RJ6, "getMessage", "()Ljava/lang/String;"⟩
theorem dJ6_getMessage_0 : decode cJ6_getMessage 0 = .ok (.aload_n 0, 1) := by decide +kernel
theorem dJ6_getMessage_1 : decode cJ6_getMessage 1 = .ok (.getfield 31, 3) := by decide +kernel
theorem dJ6_getMessage_4 : decode cJ6_getMessage 4 = .ok (.areturn, 1) := by decide +kernel

/-! decode rows: J7.java_lang_Exception.lean.txt -/
set_option maxRecDepth 100000
abbrev cJ7_init : ByteArray := prog_23_method_2_code
def yJ7_init : MethodName := ⟨RJ7, "<init>", "(Ljava/lang/String;)V"⟩
def dkwJ7_init_0 : List UInt8 := [42, 43, 183, 0, 7, 177]
abbrev dktJ7_init_0 : List UInt8 := dkwJ7_init_0 ++ []
theorem dksJ7_init_0 : cJ7_init.data.toList.drop 0 = dktJ7_init_0 := by decide +kernel
theorem dJ7_init_0 : decode cJ7_init 0 = .ok (.aload_n 0, 1) := dk_42 (dk_at dksJ7_init_0 0 rfl rfl)
theorem dJ7_init_1 : decode cJ7_init 1 = .ok (.aload_n 1, 1) := dk_43 (dk_at dksJ7_init_0 1 rfl rfl)
theorem dJ7_init_2 : decode cJ7_init 2 = .ok (.invokespecial 7, 3) := dk_183 0 7 (dk_at dksJ7_init_0 2 rfl rfl)
theorem dJ7_init_5 : decode cJ7_init 5 = .ok (.return_, 1) := dk_177 (dk_at dksJ7_init_0 5 rfl rfl)
abbrev cJ7_init_2 : ByteArray := prog_23_method_1_code
def yJ7_init_2 : MethodName := ⟨RJ7, "<init>", "()V"⟩
theorem dJ7_init_2_0 : decode cJ7_init_2 0 = .ok (.aload_n 0, 1) := by decide +kernel
theorem dJ7_init_2_1 : decode cJ7_init_2 1 = .ok (.invokespecial 1, 3) := by decide +kernel
theorem dJ7_init_2_4 : decode cJ7_init_2 4 = .ok (.return_, 1) := by decide +kernel
abbrev cJ7_init_3 : ByteArray := prog_23_method_5_code
def yJ7_init_3 : MethodName := ⟨RJ7, "<init>", "(Ljava/lang/String;Ljava/lang/Throwable;ZZ)V"⟩
def dkwJ7_init_3_0 : List UInt8 := [42, 43, 44, 29, 21, 4, 183, 0, 16, 177]
abbrev dktJ7_init_3_0 : List UInt8 := dkwJ7_init_3_0 ++ []
theorem dksJ7_init_3_0 : cJ7_init_3.data.toList.drop 0 = dktJ7_init_3_0 := by decide +kernel
theorem dJ7_init_3_0 : decode cJ7_init_3 0 = .ok (.aload_n 0, 1) := dk_42 (dk_at dksJ7_init_3_0 0 rfl rfl)
theorem dJ7_init_3_1 : decode cJ7_init_3 1 = .ok (.aload_n 1, 1) := dk_43 (dk_at dksJ7_init_3_0 1 rfl rfl)
theorem dJ7_init_3_2 : decode cJ7_init_3 2 = .ok (.aload_n 2, 1) := dk_44 (dk_at dksJ7_init_3_0 2 rfl rfl)
theorem dJ7_init_3_3 : decode cJ7_init_3 3 = .ok (.iload_n 3, 1) := dk_29 (dk_at dksJ7_init_3_0 3 rfl rfl)
theorem dJ7_init_3_4 : decode cJ7_init_3 4 = .ok (.iload 4, 2) := dk_21 4 (dk_at dksJ7_init_3_0 4 rfl rfl)
theorem dJ7_init_3_6 : decode cJ7_init_3 6 = .ok (.invokespecial 16, 3) := dk_183 0 16 (dk_at dksJ7_init_3_0 6 rfl rfl)
theorem dJ7_init_3_9 : decode cJ7_init_3 9 = .ok (.return_, 1) := dk_177 (dk_at dksJ7_init_3_0 9 rfl rfl)
abbrev cJ7_init_4 : ByteArray := prog_23_method_4_code
def yJ7_init_4 : MethodName := ⟨RJ7, "<init>", "(Ljava/lang/Throwable;)V"⟩
def dkwJ7_init_4_0 : List UInt8 := [42, 43, 183, 0, 13, 177]
abbrev dktJ7_init_4_0 : List UInt8 := dkwJ7_init_4_0 ++ []
theorem dksJ7_init_4_0 : cJ7_init_4.data.toList.drop 0 = dktJ7_init_4_0 := by decide +kernel
theorem dJ7_init_4_0 : decode cJ7_init_4 0 = .ok (.aload_n 0, 1) := dk_42 (dk_at dksJ7_init_4_0 0 rfl rfl)
theorem dJ7_init_4_1 : decode cJ7_init_4 1 = .ok (.aload_n 1, 1) := dk_43 (dk_at dksJ7_init_4_0 1 rfl rfl)
theorem dJ7_init_4_2 : decode cJ7_init_4 2 = .ok (.invokespecial 13, 3) := dk_183 0 13 (dk_at dksJ7_init_4_0 2 rfl rfl)
theorem dJ7_init_4_5 : decode cJ7_init_4 5 = .ok (.return_, 1) := dk_177 (dk_at dksJ7_init_4_0 5 rfl rfl)

/-! decode rows: J8.java_lang_RuntimeException.lean.txt -/
set_option maxRecDepth 100000
abbrev cJ8_init : ByteArray := prog_33_method_2_code
def yJ8_init : MethodName := ⟨RJ8, "<init>", "(Ljava/lang/String;)V"⟩
def dkwJ8_init_0 : List UInt8 := [42, 43, 183, 0, 7, 177]
abbrev dktJ8_init_0 : List UInt8 := dkwJ8_init_0 ++ []
theorem dksJ8_init_0 : cJ8_init.data.toList.drop 0 = dktJ8_init_0 := by decide +kernel
theorem dJ8_init_0 : decode cJ8_init 0 = .ok (.aload_n 0, 1) := dk_42 (dk_at dksJ8_init_0 0 rfl rfl)
theorem dJ8_init_1 : decode cJ8_init 1 = .ok (.aload_n 1, 1) := dk_43 (dk_at dksJ8_init_0 1 rfl rfl)
theorem dJ8_init_2 : decode cJ8_init 2 = .ok (.invokespecial 7, 3) := dk_183 0 7 (dk_at dksJ8_init_0 2 rfl rfl)
theorem dJ8_init_5 : decode cJ8_init 5 = .ok (.return_, 1) := dk_177 (dk_at dksJ8_init_0 5 rfl rfl)
abbrev cJ8_init_2 : ByteArray := prog_33_method_1_code
def yJ8_init_2 : MethodName := ⟨RJ8, "<init>", "()V"⟩
theorem dJ8_init_2_0 : decode cJ8_init_2 0 = .ok (.aload_n 0, 1) := by decide +kernel
theorem dJ8_init_2_1 : decode cJ8_init_2 1 = .ok (.invokespecial 1, 3) := by decide +kernel
theorem dJ8_init_2_4 : decode cJ8_init_2 4 = .ok (.return_, 1) := by decide +kernel
abbrev cJ8_init_3 : ByteArray := prog_33_method_4_code
def yJ8_init_3 : MethodName := ⟨RJ8, "<init>", "(Ljava/lang/Throwable;)V"⟩
def dkwJ8_init_3_0 : List UInt8 := [42, 43, 183, 0, 13, 177]
abbrev dktJ8_init_3_0 : List UInt8 := dkwJ8_init_3_0 ++ []
theorem dksJ8_init_3_0 : cJ8_init_3.data.toList.drop 0 = dktJ8_init_3_0 := by decide +kernel
theorem dJ8_init_3_0 : decode cJ8_init_3 0 = .ok (.aload_n 0, 1) := dk_42 (dk_at dksJ8_init_3_0 0 rfl rfl)
theorem dJ8_init_3_1 : decode cJ8_init_3 1 = .ok (.aload_n 1, 1) := dk_43 (dk_at dksJ8_init_3_0 1 rfl rfl)
theorem dJ8_init_3_2 : decode cJ8_init_3 2 = .ok (.invokespecial 13, 3) := dk_183 0 13 (dk_at dksJ8_init_3_0 2 rfl rfl)
theorem dJ8_init_3_5 : decode cJ8_init_3 5 = .ok (.return_, 1) := dk_177 (dk_at dksJ8_init_3_0 5 rfl rfl)

/-! decode rows: J9.java_lang_IndexOutOfBoundsException.lean.txt -/
set_option maxRecDepth 100000
abbrev cJ9_init : ByteArray := prog_26_method_2_code
def yJ9_init : MethodName := ⟨RJ9, "<init>", "(Ljava/lang/String;)V"⟩
def dkwJ9_init_0 : List UInt8 := [42, 43, 183, 0, 7, 177]
abbrev dktJ9_init_0 : List UInt8 := dkwJ9_init_0 ++ []
theorem dksJ9_init_0 : cJ9_init.data.toList.drop 0 = dktJ9_init_0 := by decide +kernel
theorem dJ9_init_0 : decode cJ9_init 0 = .ok (.aload_n 0, 1) := dk_42 (dk_at dksJ9_init_0 0 rfl rfl)
theorem dJ9_init_1 : decode cJ9_init 1 = .ok (.aload_n 1, 1) := dk_43 (dk_at dksJ9_init_0 1 rfl rfl)
theorem dJ9_init_2 : decode cJ9_init 2 = .ok (.invokespecial 7, 3) := dk_183 0 7 (dk_at dksJ9_init_0 2 rfl rfl)
theorem dJ9_init_5 : decode cJ9_init 5 = .ok (.return_, 1) := dk_177 (dk_at dksJ9_init_0 5 rfl rfl)
abbrev cJ9_init_2 : ByteArray := prog_26_method_1_code
def yJ9_init_2 : MethodName := ⟨RJ9, "<init>", "()V"⟩
theorem dJ9_init_2_0 : decode cJ9_init_2 0 = .ok (.aload_n 0, 1) := by decide +kernel
theorem dJ9_init_2_1 : decode cJ9_init_2 1 = .ok (.invokespecial 1, 3) := by decide +kernel
theorem dJ9_init_2_4 : decode cJ9_init_2 4 = .ok (.return_, 1) := by decide +kernel

/-! decode rows: J10.java_lang_ArrayIndexOutOfBoundsException.lean.txt -/
set_option maxRecDepth 100000
abbrev cJ10_init : ByteArray := prog_19_method_2_code
def yJ10_init : MethodName := ⟨RJ10, "<init>", "(Ljava/lang/String;)V"⟩
def dkwJ10_init_0 : List UInt8 := [42, 43, 183, 0, 7, 177]
abbrev dktJ10_init_0 : List UInt8 := dkwJ10_init_0 ++ []
theorem dksJ10_init_0 : cJ10_init.data.toList.drop 0 = dktJ10_init_0 := by decide +kernel
theorem dJ10_init_0 : decode cJ10_init 0 = .ok (.aload_n 0, 1) := dk_42 (dk_at dksJ10_init_0 0 rfl rfl)
theorem dJ10_init_1 : decode cJ10_init 1 = .ok (.aload_n 1, 1) := dk_43 (dk_at dksJ10_init_0 1 rfl rfl)
theorem dJ10_init_2 : decode cJ10_init 2 = .ok (.invokespecial 7, 3) := dk_183 0 7 (dk_at dksJ10_init_0 2 rfl rfl)
theorem dJ10_init_5 : decode cJ10_init 5 = .ok (.return_, 1) := dk_177 (dk_at dksJ10_init_0 5 rfl rfl)
abbrev cJ10_init_2 : ByteArray := prog_19_method_3_code
def yJ10_init_2 : MethodName := ⟨RJ10, "<init>", "(I)V"⟩
def dkwJ10_init_2_0 : List UInt8 := [42, 187, 0, 10, 89, 183, 0, 12, 18, 13, 182, 0, 15, 27, 182, 0, 19, 182, 0, 22, 183, 0, 7, 177]
abbrev dktJ10_init_2_0 : List UInt8 := dkwJ10_init_2_0 ++ []
theorem dksJ10_init_2_0 : cJ10_init_2.data.toList.drop 0 = dktJ10_init_2_0 := by decide +kernel
theorem dJ10_init_2_0 : decode cJ10_init_2 0 = .ok (.aload_n 0, 1) := dk_42 (dk_at dksJ10_init_2_0 0 rfl rfl)
theorem dJ10_init_2_1 : decode cJ10_init_2 1 = .ok (.new 10, 3) := dk_187 0 10 (dk_at dksJ10_init_2_0 1 rfl rfl)
theorem dJ10_init_2_4 : decode cJ10_init_2 4 = .ok (.dup, 1) := dk_89 (dk_at dksJ10_init_2_0 4 rfl rfl)
theorem dJ10_init_2_5 : decode cJ10_init_2 5 = .ok (.invokespecial 12, 3) := dk_183 0 12 (dk_at dksJ10_init_2_0 5 rfl rfl)
theorem dJ10_init_2_8 : decode cJ10_init_2 8 = .ok (.ldc 13, 2) := dk_18 13 (dk_at dksJ10_init_2_0 8 rfl rfl)
theorem dJ10_init_2_10 : decode cJ10_init_2 10 = .ok (.invokevirtual 15, 3) := dk_182 0 15 (dk_at dksJ10_init_2_0 10 rfl rfl)
theorem dJ10_init_2_13 : decode cJ10_init_2 13 = .ok (.iload_n 1, 1) := dk_27 (dk_at dksJ10_init_2_0 13 rfl rfl)
theorem dJ10_init_2_14 : decode cJ10_init_2 14 = .ok (.invokevirtual 19, 3) := dk_182 0 19 (dk_at dksJ10_init_2_0 14 rfl rfl)
theorem dJ10_init_2_17 : decode cJ10_init_2 17 = .ok (.invokevirtual 22, 3) := dk_182 0 22 (dk_at dksJ10_init_2_0 17 rfl rfl)
theorem dJ10_init_2_20 : decode cJ10_init_2 20 = .ok (.invokespecial 7, 3) := dk_183 0 7 (dk_at dksJ10_init_2_0 20 rfl rfl)
theorem dJ10_init_2_23 : decode cJ10_init_2 23 = .ok (.return_, 1) := dk_177 (dk_at dksJ10_init_2_0 23 rfl rfl)

/-! decode rows: J11.java_util_AbstractList.lean.txt -/
set_option maxRecDepth 100000
abbrev cJ11_init : ByteArray := prog_45_method_1_code
def yJ11_init : MethodName := ⟨RJ11, "<init>", "()V"⟩
def dkwJ11_init_0 : List UInt8 := [42, 183, 0, 1, 42, 3, 181, 0, 7, 177]
abbrev dktJ11_init_0 : List UInt8 := dkwJ11_init_0 ++ []
theorem dksJ11_init_0 : cJ11_init.data.toList.drop 0 = dktJ11_init_0 := by decide +kernel
theorem dJ11_init_0 : decode cJ11_init 0 = .ok (.aload_n 0, 1) := dk_42 (dk_at dksJ11_init_0 0 rfl rfl)
theorem dJ11_init_1 : decode cJ11_init 1 = .ok (.invokespecial 1, 3) := dk_183 0 1 (dk_at dksJ11_init_0 1 rfl rfl)
theorem dJ11_init_4 : decode cJ11_init 4 = .ok (.aload_n 0, 1) := dk_42 (dk_at dksJ11_init_0 4 rfl rfl)
theorem dJ11_init_5 : decode cJ11_init 5 = .ok (.iconst 0, 1) := dk_3 (dk_at dksJ11_init_0 5 rfl rfl)
theorem dJ11_init_6 : decode cJ11_init 6 = .ok (.putfield 7, 3) := dk_181 0 7 (dk_at dksJ11_init_0 6 rfl rfl)
theorem dJ11_init_9 : decode cJ11_init 9 = .ok (.return_, 1) := dk_177 (dk_at dksJ11_init_0 9 rfl rfl)
abbrev cJ11_listIterator : ByteArray := prog_45_method_12_code
def yJ11_listIterator : MethodName := ⟨RJ11, "listIterator", "()Ljava/util/ListIterator;"⟩
def dkwJ11_listIterator_0 : List UInt8 := [42, 3, 182, 0, 47, 176]
abbrev dktJ11_listIterator_0 : List UInt8 := dkwJ11_listIterator_0 ++ []
theorem dksJ11_listIterator_0 : cJ11_listIterator.data.toList.drop 0 = dktJ11_listIterator_0 := by decide +kernel
theorem dJ11_listIterator_0 : decode cJ11_listIterator 0 = .ok (.aload_n 0, 1) := dk_42 (dk_at dksJ11_listIterator_0 0 rfl rfl)
theorem dJ11_listIterator_1 : decode cJ11_listIterator 1 = .ok (.iconst 0, 1) := dk_3 (dk_at dksJ11_listIterator_0 1 rfl rfl)
theorem dJ11_listIterator_2 : decode cJ11_listIterator 2 = .ok (.invokevirtual 47, 3) := dk_182 0 47 (dk_at dksJ11_listIterator_0 2 rfl rfl)
theorem dJ11_listIterator_5 : decode cJ11_listIterator 5 = .ok (.areturn, 1) := dk_176 (dk_at dksJ11_listIterator_0 5 rfl rfl)

/-! decode rows: J12.java_util_ArrayList.lean.txt -/
set_option maxRecDepth 100000
abbrev cJ12_size : ByteArray := prog_50_method_8_code
def yJ12_size : MethodName := ⟨RJ12, "size", "()I"⟩
theorem dJ12_size_0 : decode cJ12_size 0 = .ok (.aload_n 0, 1) := by decide +kernel
theorem dJ12_size_1 : decode cJ12_size 1 = .ok (.getfield 48, 3) := by decide +kernel
theorem dJ12_size_4 : decode cJ12_size 4 = .ok (.ireturn, 1) := by decide +kernel
abbrev cJ12_init : ByteArray := prog_50_method_1_code
def yJ12_init : MethodName := ⟨RJ12, "<init>", "(I)V"⟩
def dkwJ12_init_2 : List UInt8 := [182, 0, 25, 27, 182, 0, 29, 182, 0, 32, 183, 0, 36, 191, 177]
abbrev dktJ12_init_2 : List UInt8 := dkwJ12_init_2 ++ []
def dkwJ12_init_1 : List UInt8 := [178, 0, 15, 181, 0, 9, 167, 0, 30, 187, 0, 18, 89, 187, 0, 20, 89, 183, 0, 22, 18, 23]
abbrev dktJ12_init_1 : List UInt8 := dkwJ12_init_1 ++ dktJ12_init_2
def dkwJ12_init_0 : List UInt8 := [42, 183, 0, 1, 27, 158, 0, 14, 42, 27, 189, 0, 7, 181, 0, 9, 167, 0, 44, 27, 154, 0, 13, 42]
abbrev dktJ12_init_0 : List UInt8 := dkwJ12_init_0 ++ dktJ12_init_1
theorem dksJ12_init_0 : cJ12_init.data.toList.drop 0 = dktJ12_init_0 := by decide +kernel
theorem dksJ12_init_1 : cJ12_init.data.toList.drop 24 = dktJ12_init_1 := dk_seg dksJ12_init_0 24 rfl rfl
theorem dksJ12_init_2 : cJ12_init.data.toList.drop 46 = dktJ12_init_2 := dk_seg dksJ12_init_1 22 rfl rfl
theorem dJ12_init_0 : decode cJ12_init 0 = .ok (.aload_n 0, 1) := dk_42 (dk_at dksJ12_init_0 0 rfl rfl)
theorem dJ12_init_1 : decode cJ12_init 1 = .ok (.invokespecial 1, 3) := dk_183 0 1 (dk_at dksJ12_init_0 1 rfl rfl)
theorem dJ12_init_4 : decode cJ12_init 4 = .ok (.iload_n 1, 1) := dk_27 (dk_at dksJ12_init_0 4 rfl rfl)
theorem dJ12_init_5 : decode cJ12_init 5 = .ok (.ifCond .le 14, 3) := dk_158 0 14 (dk_at dksJ12_init_0 5 rfl rfl)
theorem dJ12_init_8 : decode cJ12_init 8 = .ok (.aload_n 0, 1) := dk_42 (dk_at dksJ12_init_0 8 rfl rfl)
theorem dJ12_init_9 : decode cJ12_init 9 = .ok (.iload_n 1, 1) := dk_27 (dk_at dksJ12_init_0 9 rfl rfl)
theorem dJ12_init_10 : decode cJ12_init 10 = .ok (.anewarray 7, 3) := dk_189 0 7 (dk_at dksJ12_init_0 10 rfl rfl)
theorem dJ12_init_13 : decode cJ12_init 13 = .ok (.putfield 9, 3) := dk_181 0 9 (dk_at dksJ12_init_0 13 rfl rfl)
theorem dJ12_init_16 : decode cJ12_init 16 = .ok (.goto 44, 3) := dk_167 0 44 (dk_at dksJ12_init_0 16 rfl rfl)
theorem dJ12_init_19 : decode cJ12_init 19 = .ok (.iload_n 1, 1) := dk_27 (dk_at dksJ12_init_0 19 rfl rfl)
theorem dJ12_init_20 : decode cJ12_init 20 = .ok (.ifCond .ne 13, 3) := dk_154 0 13 (dk_at dksJ12_init_0 20 rfl rfl)
theorem dJ12_init_23 : decode cJ12_init 23 = .ok (.aload_n 0, 1) := dk_42 (dk_at dksJ12_init_0 23 rfl rfl)
theorem dJ12_init_24 : decode cJ12_init 24 = .ok (.getstatic 15, 3) := dk_178 0 15 (dk_at dksJ12_init_1 0 rfl rfl)
theorem dJ12_init_27 : decode cJ12_init 27 = .ok (.putfield 9, 3) := dk_181 0 9 (dk_at dksJ12_init_1 3 rfl rfl)
theorem dJ12_init_30 : decode cJ12_init 30 = .ok (.goto 30, 3) := dk_167 0 30 (dk_at dksJ12_init_1 6 rfl rfl)
theorem dJ12_init_33 : decode cJ12_init 33 = .ok (.new 18, 3) := dk_187 0 18 (dk_at dksJ12_init_1 9 rfl rfl)
theorem dJ12_init_36 : decode cJ12_init 36 = .ok (.dup, 1) := dk_89 (dk_at dksJ12_init_1 12 rfl rfl)
theorem dJ12_init_37 : decode cJ12_init 37 = .ok (.new 20, 3) := dk_187 0 20 (dk_at dksJ12_init_1 13 rfl rfl)
theorem dJ12_init_40 : decode cJ12_init 40 = .ok (.dup, 1) := dk_89 (dk_at dksJ12_init_1 16 rfl rfl)
theorem dJ12_init_41 : decode cJ12_init 41 = .ok (.invokespecial 22, 3) := dk_183 0 22 (dk_at dksJ12_init_1 17 rfl rfl)
theorem dJ12_init_44 : decode cJ12_init 44 = .ok (.ldc 23, 2) := dk_18 23 (dk_at dksJ12_init_1 20 rfl rfl)
theorem dJ12_init_46 : decode cJ12_init 46 = .ok (.invokevirtual 25, 3) := dk_182 0 25 (dk_at dksJ12_init_2 0 rfl rfl)
theorem dJ12_init_49 : decode cJ12_init 49 = .ok (.iload_n 1, 1) := dk_27 (dk_at dksJ12_init_2 3 rfl rfl)
theorem dJ12_init_50 : decode cJ12_init 50 = .ok (.invokevirtual 29, 3) := dk_182 0 29 (dk_at dksJ12_init_2 4 rfl rfl)
theorem dJ12_init_53 : decode cJ12_init 53 = .ok (.invokevirtual 32, 3) := dk_182 0 32 (dk_at dksJ12_init_2 7 rfl rfl)
theorem dJ12_init_56 : decode cJ12_init 56 = .ok (.invokespecial 36, 3) := dk_183 0 36 (dk_at dksJ12_init_2 10 rfl rfl)
theorem dJ12_init_59 : decode cJ12_init 59 = .ok (.athrow, 1) := dk_191 (dk_at dksJ12_init_2 13 rfl rfl)
theorem dJ12_init_60 : decode cJ12_init 60 = .ok (.return_, 1) := dk_177 (dk_at dksJ12_init_2 14 rfl rfl)
abbrev cJ12_add : ByteArray := prog_50_method_25_code
def yJ12_add : MethodName := ⟨RJ12, "add", "(Ljava/lang/Object;)Z"⟩
def dkwJ12_add_1 : List UInt8 := [172]
abbrev dktJ12_add_1 : List UInt8 := dkwJ12_add_1 ++ []
def dkwJ12_add_0 : List UInt8 := [42, 89, 180, 0, 63, 4, 96, 181, 0, 63, 42, 43, 42, 180, 0, 9, 42, 180, 0, 48, 182, 0, 131, 4]
abbrev dktJ12_add_0 : List UInt8 := dkwJ12_add_0 ++ dktJ12_add_1
theorem dksJ12_add_0 : cJ12_add.data.toList.drop 0 = dktJ12_add_0 := by decide +kernel
theorem dksJ12_add_1 : cJ12_add.data.toList.drop 24 = dktJ12_add_1 := dk_seg dksJ12_add_0 24 rfl rfl
theorem dJ12_add_0 : decode cJ12_add 0 = .ok (.aload_n 0, 1) := dk_42 (dk_at dksJ12_add_0 0 rfl rfl)
theorem dJ12_add_1 : decode cJ12_add 1 = .ok (.dup, 1) := dk_89 (dk_at dksJ12_add_0 1 rfl rfl)
theorem dJ12_add_2 : decode cJ12_add 2 = .ok (.getfield 63, 3) := dk_180 0 63 (dk_at dksJ12_add_0 2 rfl rfl)
theorem dJ12_add_5 : decode cJ12_add 5 = .ok (.iconst 1, 1) := dk_4 (dk_at dksJ12_add_0 5 rfl rfl)
theorem dJ12_add_6 : decode cJ12_add 6 = .ok (.iadd, 1) := dk_96 (dk_at dksJ12_add_0 6 rfl rfl)
theorem dJ12_add_7 : decode cJ12_add 7 = .ok (.putfield 63, 3) := dk_181 0 63 (dk_at dksJ12_add_0 7 rfl rfl)
theorem dJ12_add_10 : decode cJ12_add 10 = .ok (.aload_n 0, 1) := dk_42 (dk_at dksJ12_add_0 10 rfl rfl)
theorem dJ12_add_11 : decode cJ12_add 11 = .ok (.aload_n 1, 1) := dk_43 (dk_at dksJ12_add_0 11 rfl rfl)
theorem dJ12_add_12 : decode cJ12_add 12 = .ok (.aload_n 0, 1) := dk_42 (dk_at dksJ12_add_0 12 rfl rfl)
theorem dJ12_add_13 : decode cJ12_add 13 = .ok (.getfield 9, 3) := dk_180 0 9 (dk_at dksJ12_add_0 13 rfl rfl)
theorem dJ12_add_16 : decode cJ12_add 16 = .ok (.aload_n 0, 1) := dk_42 (dk_at dksJ12_add_0 16 rfl rfl)
theorem dJ12_add_17 : decode cJ12_add 17 = .ok (.getfield 48, 3) := dk_180 0 48 (dk_at dksJ12_add_0 17 rfl rfl)
theorem dJ12_add_20 : decode cJ12_add 20 = .ok (.invokevirtual 131, 3) := dk_182 0 131 (dk_at dksJ12_add_0 20 rfl rfl)
theorem dJ12_add_23 : decode cJ12_add 23 = .ok (.iconst 1, 1) := dk_4 (dk_at dksJ12_add_0 23 rfl rfl)
theorem dJ12_add_24 : decode cJ12_add 24 = .ok (.ireturn, 1) := dk_172 (dk_at dksJ12_add_1 0 rfl rfl)
abbrev cJ12_add_2 : ByteArray := prog_50_method_24_code
def yJ12_add_2 : MethodName := ⟨RJ12, "add", "(Ljava/lang/Object;[Ljava/lang/Object;I)V"⟩
def dkwJ12_add_2_0 : List UInt8 := [29, 44, 190, 160, 0, 8, 42, 182, 0, 129, 77, 44, 29, 43, 83, 42, 29, 4, 96, 181, 0, 48, 177]
abbrev dktJ12_add_2_0 : List UInt8 := dkwJ12_add_2_0 ++ []
theorem dksJ12_add_2_0 : cJ12_add_2.data.toList.drop 0 = dktJ12_add_2_0 := by decide +kernel
theorem dJ12_add_2_0 : decode cJ12_add_2 0 = .ok (.iload_n 3, 1) := dk_29 (dk_at dksJ12_add_2_0 0 rfl rfl)
theorem dJ12_add_2_1 : decode cJ12_add_2 1 = .ok (.aload_n 2, 1) := dk_44 (dk_at dksJ12_add_2_0 1 rfl rfl)
theorem dJ12_add_2_2 : decode cJ12_add_2 2 = .ok (.arraylength, 1) := dk_190 (dk_at dksJ12_add_2_0 2 rfl rfl)
theorem dJ12_add_2_3 : decode cJ12_add_2 3 = .ok (.if_icmp .ne 8, 3) := dk_160 0 8 (dk_at dksJ12_add_2_0 3 rfl rfl)
theorem dJ12_add_2_6 : decode cJ12_add_2 6 = .ok (.aload_n 0, 1) := dk_42 (dk_at dksJ12_add_2_0 6 rfl rfl)
theorem dJ12_add_2_7 : decode cJ12_add_2 7 = .ok (.invokevirtual 129, 3) := dk_182 0 129 (dk_at dksJ12_add_2_0 7 rfl rfl)
theorem dJ12_add_2_10 : decode cJ12_add_2 10 = .ok (.astore_n 2, 1) := dk_77 (dk_at dksJ12_add_2_0 10 rfl rfl)
theorem dJ12_add_2_11 : decode cJ12_add_2 11 = .ok (.aload_n 2, 1) := dk_44 (dk_at dksJ12_add_2_0 11 rfl rfl)
theorem dJ12_add_2_12 : decode cJ12_add_2 12 = .ok (.iload_n 3, 1) := dk_29 (dk_at dksJ12_add_2_0 12 rfl rfl)
theorem dJ12_add_2_13 : decode cJ12_add_2 13 = .ok (.aload_n 1, 1) := dk_43 (dk_at dksJ12_add_2_0 13 rfl rfl)
theorem dJ12_add_2_14 : decode cJ12_add_2 14 = .ok (.aastore, 1) := dk_83 (dk_at dksJ12_add_2_0 14 rfl rfl)
theorem dJ12_add_2_15 : decode cJ12_add_2 15 = .ok (.aload_n 0, 1) := dk_42 (dk_at dksJ12_add_2_0 15 rfl rfl)
theorem dJ12_add_2_16 : decode cJ12_add_2 16 = .ok (.iload_n 3, 1) := dk_29 (dk_at dksJ12_add_2_0 16 rfl rfl)
theorem dJ12_add_2_17 : decode cJ12_add_2 17 = .ok (.iconst 1, 1) := dk_4 (dk_at dksJ12_add_2_0 17 rfl rfl)
theorem dJ12_add_2_18 : decode cJ12_add_2 18 = .ok (.iadd, 1) := dk_96 (dk_at dksJ12_add_2_0 18 rfl rfl)
theorem dJ12_add_2_19 : decode cJ12_add_2 19 = .ok (.putfield 48, 3) := dk_181 0 48 (dk_at dksJ12_add_2_0 19 rfl rfl)
theorem dJ12_add_2_22 : decode cJ12_add_2 22 = .ok (.return_, 1) := dk_177 (dk_at dksJ12_add_2_0 22 rfl rfl)
abbrev cJ12_grow : ByteArray := prog_50_method_7_code
def yJ12_grow : MethodName := ⟨RJ12, "grow", "()[Ljava/lang/Object;"⟩
def dkwJ12_grow_0 : List UInt8 := [42, 42, 180, 0, 48, 4, 96, 182, 0, 69, 176]
abbrev dktJ12_grow_0 : List UInt8 := dkwJ12_grow_0 ++ []
theorem dksJ12_grow_0 : cJ12_grow.data.toList.drop 0 = dktJ12_grow_0 := by decide +kernel
theorem dJ12_grow_0 : decode cJ12_grow 0 = .ok (.aload_n 0, 1) := dk_42 (dk_at dksJ12_grow_0 0 rfl rfl)
theorem dJ12_grow_1 : decode cJ12_grow 1 = .ok (.aload_n 0, 1) := dk_42 (dk_at dksJ12_grow_0 1 rfl rfl)
theorem dJ12_grow_2 : decode cJ12_grow 2 = .ok (.getfield 48, 3) := dk_180 0 48 (dk_at dksJ12_grow_0 2 rfl rfl)
theorem dJ12_grow_5 : decode cJ12_grow 5 = .ok (.iconst 1, 1) := dk_4 (dk_at dksJ12_grow_0 5 rfl rfl)
theorem dJ12_grow_6 : decode cJ12_grow 6 = .ok (.iadd, 1) := dk_96 (dk_at dksJ12_grow_0 6 rfl rfl)
theorem dJ12_grow_7 : decode cJ12_grow 7 = .ok (.invokevirtual 69, 3) := dk_182 0 69 (dk_at dksJ12_grow_0 7 rfl rfl)
theorem dJ12_grow_10 : decode cJ12_grow 10 = .ok (.areturn, 1) := dk_176 (dk_at dksJ12_grow_0 10 rfl rfl)
abbrev cJ12_grow_2 : ByteArray := prog_50_method_6_code
def yJ12_grow_2 : MethodName := ⟨RJ12, "grow", "(I)[Ljava/lang/Object;"⟩
def dkwJ12_grow_2_2 : List UInt8 := [27, 184, 0, 79, 189, 0, 7, 90, 181, 0, 9, 176]
abbrev dktJ12_grow_2_2 : List UInt8 := dkwJ12_grow_2_2 ++ []
def dkwJ12_grow_2_1 : List UInt8 := [28, 4, 122, 184, 0, 73, 62, 42, 42, 180, 0, 9, 29, 184, 0, 66, 90, 181, 0, 9, 176, 42, 16, 10]
abbrev dktJ12_grow_2_1 : List UInt8 := dkwJ12_grow_2_1 ++ dktJ12_grow_2_2
def dkwJ12_grow_2_0 : List UInt8 := [42, 180, 0, 9, 190, 61, 28, 157, 0, 13, 42, 180, 0, 9, 178, 0, 39, 165, 0, 28, 28, 27, 28, 100]
abbrev dktJ12_grow_2_0 : List UInt8 := dkwJ12_grow_2_0 ++ dktJ12_grow_2_1
theorem dksJ12_grow_2_0 : cJ12_grow_2.data.toList.drop 0 = dktJ12_grow_2_0 := by decide +kernel
theorem dksJ12_grow_2_1 : cJ12_grow_2.data.toList.drop 24 = dktJ12_grow_2_1 := dk_seg dksJ12_grow_2_0 24 rfl rfl
theorem dksJ12_grow_2_2 : cJ12_grow_2.data.toList.drop 48 = dktJ12_grow_2_2 := dk_seg dksJ12_grow_2_1 24 rfl rfl
theorem dJ12_grow_2_0 : decode cJ12_grow_2 0 = .ok (.aload_n 0, 1) := dk_42 (dk_at dksJ12_grow_2_0 0 rfl rfl)
theorem dJ12_grow_2_1 : decode cJ12_grow_2 1 = .ok (.getfield 9, 3) := dk_180 0 9 (dk_at dksJ12_grow_2_0 1 rfl rfl)
theorem dJ12_grow_2_4 : decode cJ12_grow_2 4 = .ok (.arraylength, 1) := dk_190 (dk_at dksJ12_grow_2_0 4 rfl rfl)
theorem dJ12_grow_2_5 : decode cJ12_grow_2 5 = .ok (.istore_n 2, 1) := dk_61 (dk_at dksJ12_grow_2_0 5 rfl rfl)
theorem dJ12_grow_2_6 : decode cJ12_grow_2 6 = .ok (.iload_n 2, 1) := dk_28 (dk_at dksJ12_grow_2_0 6 rfl rfl)
theorem dJ12_grow_2_7 : decode cJ12_grow_2 7 = .ok (.ifCond .gt 13, 3) := dk_157 0 13 (dk_at dksJ12_grow_2_0 7 rfl rfl)
theorem dJ12_grow_2_10 : decode cJ12_grow_2 10 = .ok (.aload_n 0, 1) := dk_42 (dk_at dksJ12_grow_2_0 10 rfl rfl)
theorem dJ12_grow_2_11 : decode cJ12_grow_2 11 = .ok (.getfield 9, 3) := dk_180 0 9 (dk_at dksJ12_grow_2_0 11 rfl rfl)
theorem dJ12_grow_2_14 : decode cJ12_grow_2 14 = .ok (.getstatic 39, 3) := dk_178 0 39 (dk_at dksJ12_grow_2_0 14 rfl rfl)
theorem dJ12_grow_2_17 : decode cJ12_grow_2 17 = .ok (.if_acmp .eq 28, 3) := dk_165 0 28 (dk_at dksJ12_grow_2_0 17 rfl rfl)
theorem dJ12_grow_2_20 : decode cJ12_grow_2 20 = .ok (.iload_n 2, 1) := dk_28 (dk_at dksJ12_grow_2_0 20 rfl rfl)
theorem dJ12_grow_2_21 : decode cJ12_grow_2 21 = .ok (.iload_n 1, 1) := dk_27 (dk_at dksJ12_grow_2_0 21 rfl rfl)
theorem dJ12_grow_2_22 : decode cJ12_grow_2 22 = .ok (.iload_n 2, 1) := dk_28 (dk_at dksJ12_grow_2_0 22 rfl rfl)
theorem dJ12_grow_2_23 : decode cJ12_grow_2 23 = .ok (.isub, 1) := dk_100 (dk_at dksJ12_grow_2_0 23 rfl rfl)
theorem dJ12_grow_2_24 : decode cJ12_grow_2 24 = .ok (.iload_n 2, 1) := dk_28 (dk_at dksJ12_grow_2_1 0 rfl rfl)
theorem dJ12_grow_2_25 : decode cJ12_grow_2 25 = .ok (.iconst 1, 1) := dk_4 (dk_at dksJ12_grow_2_1 1 rfl rfl)
theorem dJ12_grow_2_26 : decode cJ12_grow_2 26 = .ok (.ishr, 1) := dk_122 (dk_at dksJ12_grow_2_1 2 rfl rfl)
theorem dJ12_grow_2_27 : decode cJ12_grow_2 27 = .ok (.invokestatic 73, 3) := dk_184 0 73 (dk_at dksJ12_grow_2_1 3 rfl rfl)
theorem dJ12_grow_2_30 : decode cJ12_grow_2 30 = .ok (.istore_n 3, 1) := dk_62 (dk_at dksJ12_grow_2_1 6 rfl rfl)
theorem dJ12_grow_2_31 : decode cJ12_grow_2 31 = .ok (.aload_n 0, 1) := dk_42 (dk_at dksJ12_grow_2_1 7 rfl rfl)
theorem dJ12_grow_2_32 : decode cJ12_grow_2 32 = .ok (.aload_n 0, 1) := dk_42 (dk_at dksJ12_grow_2_1 8 rfl rfl)
theorem dJ12_grow_2_33 : decode cJ12_grow_2 33 = .ok (.getfield 9, 3) := dk_180 0 9 (dk_at dksJ12_grow_2_1 9 rfl rfl)
theorem dJ12_grow_2_36 : decode cJ12_grow_2 36 = .ok (.iload_n 3, 1) := dk_29 (dk_at dksJ12_grow_2_1 12 rfl rfl)
theorem dJ12_grow_2_37 : decode cJ12_grow_2 37 = .ok (.invokestatic 66, 3) := dk_184 0 66 (dk_at dksJ12_grow_2_1 13 rfl rfl)
theorem dJ12_grow_2_40 : decode cJ12_grow_2 40 = .ok (.dup_x1, 1) := dk_90 (dk_at dksJ12_grow_2_1 16 rfl rfl)
theorem dJ12_grow_2_41 : decode cJ12_grow_2 41 = .ok (.putfield 9, 3) := dk_181 0 9 (dk_at dksJ12_grow_2_1 17 rfl rfl)
theorem dJ12_grow_2_44 : decode cJ12_grow_2 44 = .ok (.areturn, 1) := dk_176 (dk_at dksJ12_grow_2_1 20 rfl rfl)
theorem dJ12_grow_2_45 : decode cJ12_grow_2 45 = .ok (.aload_n 0, 1) := dk_42 (dk_at dksJ12_grow_2_1 21 rfl rfl)
theorem dJ12_grow_2_46 : decode cJ12_grow_2 46 = .ok (.bipush 10, 2) := dk_16 10 (dk_at dksJ12_grow_2_1 22 rfl rfl)
theorem dJ12_grow_2_48 : decode cJ12_grow_2 48 = .ok (.iload_n 1, 1) := dk_27 (dk_at dksJ12_grow_2_2 0 rfl rfl)
theorem dJ12_grow_2_49 : decode cJ12_grow_2 49 = .ok (.invokestatic 79, 3) := dk_184 0 79 (dk_at dksJ12_grow_2_2 1 rfl rfl)
theorem dJ12_grow_2_52 : decode cJ12_grow_2 52 = .ok (.anewarray 7, 3) := dk_189 0 7 (dk_at dksJ12_grow_2_2 4 rfl rfl)
theorem dJ12_grow_2_55 : decode cJ12_grow_2 55 = .ok (.dup_x1, 1) := dk_90 (dk_at dksJ12_grow_2_2 7 rfl rfl)
theorem dJ12_grow_2_56 : decode cJ12_grow_2 56 = .ok (.putfield 9, 3) := dk_181 0 9 (dk_at dksJ12_grow_2_2 8 rfl rfl)
theorem dJ12_grow_2_59 : decode cJ12_grow_2 59 = .ok (.areturn, 1) := dk_176 (dk_at dksJ12_grow_2_2 11 rfl rfl)
abbrev cJ12_contains : ByteArray := prog_50_method_10_code
def yJ12_contains : MethodName := ⟨RJ12, "contains", "(Ljava/lang/Object;)Z"⟩
def dkwJ12_contains_0 : List UInt8 := [42, 43, 182, 0, 85, 155, 0, 7, 4, 167, 0, 4, 3, 172]
abbrev dktJ12_contains_0 : List UInt8 := dkwJ12_contains_0 ++ []
theorem dksJ12_contains_0 : cJ12_contains.data.toList.drop 0 = dktJ12_contains_0 := by decide +kernel
theorem dJ12_contains_0 : decode cJ12_contains 0 = .ok (.aload_n 0, 1) := dk_42 (dk_at dksJ12_contains_0 0 rfl rfl)
theorem dJ12_contains_1 : decode cJ12_contains 1 = .ok (.aload_n 1, 1) := dk_43 (dk_at dksJ12_contains_0 1 rfl rfl)
theorem dJ12_contains_2 : decode cJ12_contains 2 = .ok (.invokevirtual 85, 3) := dk_182 0 85 (dk_at dksJ12_contains_0 2 rfl rfl)
theorem dJ12_contains_5 : decode cJ12_contains 5 = .ok (.ifCond .lt 7, 3) := dk_155 0 7 (dk_at dksJ12_contains_0 5 rfl rfl)
theorem dJ12_contains_8 : decode cJ12_contains 8 = .ok (.iconst 1, 1) := dk_4 (dk_at dksJ12_contains_0 8 rfl rfl)
theorem dJ12_contains_9 : decode cJ12_contains 9 = .ok (.goto 4, 3) := dk_167 0 4 (dk_at dksJ12_contains_0 9 rfl rfl)
theorem dJ12_contains_12 : decode cJ12_contains 12 = .ok (.iconst 0, 1) := dk_3 (dk_at dksJ12_contains_0 12 rfl rfl)
theorem dJ12_contains_13 : decode cJ12_contains 13 = .ok (.ireturn, 1) := dk_172 (dk_at dksJ12_contains_0 13 rfl rfl)
abbrev cJ12_indexOf : ByteArray := prog_50_method_11_code
def yJ12_indexOf : MethodName := ⟨RJ12, "indexOf", "(Ljava/lang/Object;)I"⟩
def dkwJ12_indexOf_0 : List UInt8 := [42, 43, 3, 42, 180, 0, 48, 182, 0, 89, 172]
abbrev dktJ12_indexOf_0 : List UInt8 := dkwJ12_indexOf_0 ++ []
theorem dksJ12_indexOf_0 : cJ12_indexOf.data.toList.drop 0 = dktJ12_indexOf_0 := by decide +kernel
theorem dJ12_indexOf_0 : decode cJ12_indexOf 0 = .ok (.aload_n 0, 1) := dk_42 (dk_at dksJ12_indexOf_0 0 rfl rfl)
theorem dJ12_indexOf_1 : decode cJ12_indexOf 1 = .ok (.aload_n 1, 1) := dk_43 (dk_at dksJ12_indexOf_0 1 rfl rfl)
theorem dJ12_indexOf_2 : decode cJ12_indexOf 2 = .ok (.iconst 0, 1) := dk_3 (dk_at dksJ12_indexOf_0 2 rfl rfl)
theorem dJ12_indexOf_3 : decode cJ12_indexOf 3 = .ok (.aload_n 0, 1) := dk_42 (dk_at dksJ12_indexOf_0 3 rfl rfl)
theorem dJ12_indexOf_4 : decode cJ12_indexOf 4 = .ok (.getfield 48, 3) := dk_180 0 48 (dk_at dksJ12_indexOf_0 4 rfl rfl)
theorem dJ12_indexOf_7 : decode cJ12_indexOf 7 = .ok (.invokevirtual 89, 3) := dk_182 0 89 (dk_at dksJ12_indexOf_0 7 rfl rfl)
theorem dJ12_indexOf_10 : decode cJ12_indexOf 10 = .ok (.ireturn, 1) := dk_172 (dk_at dksJ12_indexOf_0 10 rfl rfl)
abbrev cJ12_indexOfRange : ByteArray := prog_50_method_12_code
def yJ12_indexOfRange : MethodName := ⟨RJ12, "indexOfRange", "(Ljava/lang/Object;II)I"⟩
def dkwJ12_indexOfRange_2 : List UInt8 := [43, 25, 4, 21, 5, 50, 182, 0, 93, 153, 0, 6, 21, 5, 172, 132, 5, 1, 167, 255, 232, 2, 172]
abbrev dktJ12_indexOfRange_2 : List UInt8 := dkwJ12_indexOfRange_2 ++ []
def dkwJ12_indexOfRange_1 : List UInt8 := [199, 0, 6, 21, 5, 172, 132, 5, 1, 167, 255, 236, 167, 0, 33, 28, 54, 5, 21, 5, 29, 162, 0, 24]
abbrev dktJ12_indexOfRange_1 : List UInt8 := dkwJ12_indexOfRange_1 ++ dktJ12_indexOfRange_2
def dkwJ12_indexOfRange_0 : List UInt8 := [42, 180, 0, 9, 58, 4, 43, 199, 0, 32, 28, 54, 5, 21, 5, 29, 162, 0, 20, 25, 4, 21, 5, 50]
abbrev dktJ12_indexOfRange_0 : List UInt8 := dkwJ12_indexOfRange_0 ++ dktJ12_indexOfRange_1
theorem dksJ12_indexOfRange_0 : cJ12_indexOfRange.data.toList.drop 0 = dktJ12_indexOfRange_0 := by decide +kernel
theorem dksJ12_indexOfRange_1 : cJ12_indexOfRange.data.toList.drop 24 = dktJ12_indexOfRange_1 := dk_seg dksJ12_indexOfRange_0 24 rfl rfl
theorem dksJ12_indexOfRange_2 : cJ12_indexOfRange.data.toList.drop 48 = dktJ12_indexOfRange_2 := dk_seg dksJ12_indexOfRange_1 24 rfl rfl
theorem dJ12_indexOfRange_0 : decode cJ12_indexOfRange 0 = .ok (.aload_n 0, 1) := dk_42 (dk_at dksJ12_indexOfRange_0 0 rfl rfl)
theorem dJ12_indexOfRange_1 : decode cJ12_indexOfRange 1 = .ok (.getfield 9, 3) := dk_180 0 9 (dk_at dksJ12_indexOfRange_0 1 rfl rfl)
theorem dJ12_indexOfRange_4 : decode cJ12_indexOfRange 4 = .ok (.astore 4, 2) := dk_58 4 (dk_at dksJ12_indexOfRange_0 4 rfl rfl)
theorem dJ12_indexOfRange_6 : decode cJ12_indexOfRange 6 = .ok (.aload_n 1, 1) := dk_43 (dk_at dksJ12_indexOfRange_0 6 rfl rfl)
theorem dJ12_indexOfRange_7 : decode cJ12_indexOfRange 7 = .ok (.ifnonnull 32, 3) := dk_199 0 32 (dk_at dksJ12_indexOfRange_0 7 rfl rfl)
theorem dJ12_indexOfRange_10 : decode cJ12_indexOfRange 10 = .ok (.iload_n 2, 1) := dk_28 (dk_at dksJ12_indexOfRange_0 10 rfl rfl)
theorem dJ12_indexOfRange_11 : decode cJ12_indexOfRange 11 = .ok (.istore 5, 2) := dk_54 5 (dk_at dksJ12_indexOfRange_0 11 rfl rfl)
theorem dJ12_indexOfRange_13 : decode cJ12_indexOfRange 13 = .ok (.iload 5, 2) := dk_21 5 (dk_at dksJ12_indexOfRange_0 13 rfl rfl)
theorem dJ12_indexOfRange_15 : decode cJ12_indexOfRange 15 = .ok (.iload_n 3, 1) := dk_29 (dk_at dksJ12_indexOfRange_0 15 rfl rfl)
theorem dJ12_indexOfRange_16 : decode cJ12_indexOfRange 16 = .ok (.if_icmp .ge 20, 3) := dk_162 0 20 (dk_at dksJ12_indexOfRange_0 16 rfl rfl)
theorem dJ12_indexOfRange_19 : decode cJ12_indexOfRange 19 = .ok (.aload 4, 2) := dk_25 4 (dk_at dksJ12_indexOfRange_0 19 rfl rfl)
theorem dJ12_indexOfRange_21 : decode cJ12_indexOfRange 21 = .ok (.iload 5, 2) := dk_21 5 (dk_at dksJ12_indexOfRange_0 21 rfl rfl)
theorem dJ12_indexOfRange_23 : decode cJ12_indexOfRange 23 = .ok (.aaload, 1) := dk_50 (dk_at dksJ12_indexOfRange_0 23 rfl rfl)
theorem dJ12_indexOfRange_24 : decode cJ12_indexOfRange 24 = .ok (.ifnonnull 6, 3) := dk_199 0 6 (dk_at dksJ12_indexOfRange_1 0 rfl rfl)
theorem dJ12_indexOfRange_27 : decode cJ12_indexOfRange 27 = .ok (.iload 5, 2) := dk_21 5 (dk_at dksJ12_indexOfRange_1 3 rfl rfl)
theorem dJ12_indexOfRange_29 : decode cJ12_indexOfRange 29 = .ok (.ireturn, 1) := dk_172 (dk_at dksJ12_indexOfRange_1 5 rfl rfl)
theorem dJ12_indexOfRange_30 : decode cJ12_indexOfRange 30 = .ok (.iinc 5 1, 3) := dk_132 5 1 (dk_at dksJ12_indexOfRange_1 6 rfl rfl)
theorem dJ12_indexOfRange_33 : decode cJ12_indexOfRange 33 = .ok (.goto (-20), 3) := dk_167 255 236 (dk_at dksJ12_indexOfRange_1 9 rfl rfl)
theorem dJ12_indexOfRange_36 : decode cJ12_indexOfRange 36 = .ok (.goto 33, 3) := dk_167 0 33 (dk_at dksJ12_indexOfRange_1 12 rfl rfl)
theorem dJ12_indexOfRange_39 : decode cJ12_indexOfRange 39 = .ok (.iload_n 2, 1) := dk_28 (dk_at dksJ12_indexOfRange_1 15 rfl rfl)
theorem dJ12_indexOfRange_40 : decode cJ12_indexOfRange 40 = .ok (.istore 5, 2) := dk_54 5 (dk_at dksJ12_indexOfRange_1 16 rfl rfl)
theorem dJ12_indexOfRange_42 : decode cJ12_indexOfRange 42 = .ok (.iload 5, 2) := dk_21 5 (dk_at dksJ12_indexOfRange_1 18 rfl rfl)
theorem dJ12_indexOfRange_44 : decode cJ12_indexOfRange 44 = .ok (.iload_n 3, 1) := dk_29 (dk_at dksJ12_indexOfRange_1 20 rfl rfl)
theorem dJ12_indexOfRange_45 : decode cJ12_indexOfRange 45 = .ok (.if_icmp .ge 24, 3) := dk_162 0 24 (dk_at dksJ12_indexOfRange_1 21 rfl rfl)
theorem dJ12_indexOfRange_48 : decode cJ12_indexOfRange 48 = .ok (.aload_n 1, 1) := dk_43 (dk_at dksJ12_indexOfRange_2 0 rfl rfl)
theorem dJ12_indexOfRange_49 : decode cJ12_indexOfRange 49 = .ok (.aload 4, 2) := dk_25 4 (dk_at dksJ12_indexOfRange_2 1 rfl rfl)
theorem dJ12_indexOfRange_51 : decode cJ12_indexOfRange 51 = .ok (.iload 5, 2) := dk_21 5 (dk_at dksJ12_indexOfRange_2 3 rfl rfl)
theorem dJ12_indexOfRange_53 : decode cJ12_indexOfRange 53 = .ok (.aaload, 1) := dk_50 (dk_at dksJ12_indexOfRange_2 5 rfl rfl)
theorem dJ12_indexOfRange_54 : decode cJ12_indexOfRange 54 = .ok (.invokevirtual 93, 3) := dk_182 0 93 (dk_at dksJ12_indexOfRange_2 6 rfl rfl)
theorem dJ12_indexOfRange_57 : decode cJ12_indexOfRange 57 = .ok (.ifCond .eq 6, 3) := dk_153 0 6 (dk_at dksJ12_indexOfRange_2 9 rfl rfl)
theorem dJ12_indexOfRange_60 : decode cJ12_indexOfRange 60 = .ok (.iload 5, 2) := dk_21 5 (dk_at dksJ12_indexOfRange_2 12 rfl rfl)
theorem dJ12_indexOfRange_62 : decode cJ12_indexOfRange 62 = .ok (.ireturn, 1) := dk_172 (dk_at dksJ12_indexOfRange_2 14 rfl rfl)
theorem dJ12_indexOfRange_63 : decode cJ12_indexOfRange 63 = .ok (.iinc 5 1, 3) := dk_132 5 1 (dk_at dksJ12_indexOfRange_2 15 rfl rfl)
theorem dJ12_indexOfRange_66 : decode cJ12_indexOfRange 66 = .ok (.goto (-24), 3) := dk_167 255 232 (dk_at dksJ12_indexOfRange_2 18 rfl rfl)
theorem dJ12_indexOfRange_69 : decode cJ12_indexOfRange 69 = .ok (.iconst (-1), 1) := dk_2 (dk_at dksJ12_indexOfRange_2 21 rfl rfl)
theorem dJ12_indexOfRange_70 : decode cJ12_indexOfRange 70 = .ok (.ireturn, 1) := dk_172 (dk_at dksJ12_indexOfRange_2 22 rfl rfl)
abbrev cJ12_isEmpty : ByteArray := prog_50_method_9_code
def yJ12_isEmpty : MethodName := ⟨RJ12, "isEmpty", "()Z"⟩
def dkwJ12_isEmpty_0 : List UInt8 := [42, 180, 0, 48, 154, 0, 7, 4, 167, 0, 4, 3, 172]
abbrev dktJ12_isEmpty_0 : List UInt8 := dkwJ12_isEmpty_0 ++ []
theorem dksJ12_isEmpty_0 : cJ12_isEmpty.data.toList.drop 0 = dktJ12_isEmpty_0 := by decide +kernel
theorem dJ12_isEmpty_0 : decode cJ12_isEmpty 0 = .ok (.aload_n 0, 1) := dk_42 (dk_at dksJ12_isEmpty_0 0 rfl rfl)
theorem dJ12_isEmpty_1 : decode cJ12_isEmpty 1 = .ok (.getfield 48, 3) := dk_180 0 48 (dk_at dksJ12_isEmpty_0 1 rfl rfl)
theorem dJ12_isEmpty_4 : decode cJ12_isEmpty 4 = .ok (.ifCond .ne 7, 3) := dk_154 0 7 (dk_at dksJ12_isEmpty_0 4 rfl rfl)
theorem dJ12_isEmpty_7 : decode cJ12_isEmpty 7 = .ok (.iconst 1, 1) := dk_4 (dk_at dksJ12_isEmpty_0 7 rfl rfl)
theorem dJ12_isEmpty_8 : decode cJ12_isEmpty 8 = .ok (.goto 4, 3) := dk_167 0 4 (dk_at dksJ12_isEmpty_0 8 rfl rfl)
theorem dJ12_isEmpty_11 : decode cJ12_isEmpty 11 = .ok (.iconst 0, 1) := dk_3 (dk_at dksJ12_isEmpty_0 11 rfl rfl)
theorem dJ12_isEmpty_12 : decode cJ12_isEmpty 12 = .ok (.ireturn, 1) := dk_172 (dk_at dksJ12_isEmpty_0 12 rfl rfl)
abbrev cJ12_get : ByteArray := prog_50_method_20_code
def yJ12_get : MethodName := ⟨RJ12, "get", "(I)Ljava/lang/Object;"⟩
def dkwJ12_get_0 : List UInt8 := [27, 42, 180, 0, 48, 184, 0, 118, 87, 42, 27, 182, 0, 123, 176]
abbrev dktJ12_get_0 : List UInt8 := dkwJ12_get_0 ++ []
theorem dksJ12_get_0 : cJ12_get.data.toList.drop 0 = dktJ12_get_0 := by decide +kernel
theorem dJ12_get_0 : decode cJ12_get 0 = .ok (.iload_n 1, 1) := dk_27 (dk_at dksJ12_get_0 0 rfl rfl)
theorem dJ12_get_1 : decode cJ12_get 1 = .ok (.aload_n 0, 1) := dk_42 (dk_at dksJ12_get_0 1 rfl rfl)
theorem dJ12_get_2 : decode cJ12_get 2 = .ok (.getfield 48, 3) := dk_180 0 48 (dk_at dksJ12_get_0 2 rfl rfl)
theorem dJ12_get_5 : decode cJ12_get 5 = .ok (.invokestatic 118, 3) := dk_184 0 118 (dk_at dksJ12_get_0 5 rfl rfl)
theorem dJ12_get_8 : decode cJ12_get 8 = .ok (.pop, 1) := dk_87 (dk_at dksJ12_get_0 8 rfl rfl)
theorem dJ12_get_9 : decode cJ12_get 9 = .ok (.aload_n 0, 1) := dk_42 (dk_at dksJ12_get_0 9 rfl rfl)
theorem dJ12_get_10 : decode cJ12_get 10 = .ok (.iload_n 1, 1) := dk_27 (dk_at dksJ12_get_0 10 rfl rfl)
theorem dJ12_get_11 : decode cJ12_get 11 = .ok (.invokevirtual 123, 3) := dk_182 0 123 (dk_at dksJ12_get_0 11 rfl rfl)
theorem dJ12_get_14 : decode cJ12_get 14 = .ok (.areturn, 1) := dk_176 (dk_at dksJ12_get_0 14 rfl rfl)
abbrev cJ12_elementData : ByteArray := prog_50_method_18_code
def yJ12_elementData : MethodName := ⟨RJ12, "elementData", "(I)Ljava/lang/Object;"⟩
def dkwJ12_elementData_0 : List UInt8 := [42, 180, 0, 9, 27, 50, 176]
abbrev dktJ12_elementData_0 : List UInt8 := dkwJ12_elementData_0 ++ []
theorem dksJ12_elementData_0 : cJ12_elementData.data.toList.drop 0 = dktJ12_elementData_0 := by decide +kernel
theorem dJ12_elementData_0 : decode cJ12_elementData 0 = .ok (.aload_n 0, 1) := dk_42 (dk_at dksJ12_elementData_0 0 rfl rfl)
theorem dJ12_elementData_1 : decode cJ12_elementData 1 = .ok (.getfield 9, 3) := dk_180 0 9 (dk_at dksJ12_elementData_0 1 rfl rfl)
theorem dJ12_elementData_4 : decode cJ12_elementData 4 = .ok (.iload_n 1, 1) := dk_27 (dk_at dksJ12_elementData_0 4 rfl rfl)
theorem dJ12_elementData_5 : decode cJ12_elementData 5 = .ok (.aaload, 1) := dk_50 (dk_at dksJ12_elementData_0 5 rfl rfl)
theorem dJ12_elementData_6 : decode cJ12_elementData 6 = .ok (.areturn, 1) := dk_176 (dk_at dksJ12_elementData_0 6 rfl rfl)
abbrev cJ12_listIterator : ByteArray := prog_50_method_53_code
def yJ12_listIterator : MethodName := ⟨RJ12, "listIterator", "(I)Ljava/util/ListIterator;"⟩
def dkwJ12_listIterator_0 : List UInt8 := [42, 27, 182, 0, 135, 187, 1, 6, 89, 42, 27, 183, 1, 8, 176]
abbrev dktJ12_listIterator_0 : List UInt8 := dkwJ12_listIterator_0 ++ []
theorem dksJ12_listIterator_0 : cJ12_listIterator.data.toList.drop 0 = dktJ12_listIterator_0 := by decide +kernel
theorem dJ12_listIterator_0 : decode cJ12_listIterator 0 = .ok (.aload_n 0, 1) := dk_42 (dk_at dksJ12_listIterator_0 0 rfl rfl)
theorem dJ12_listIterator_1 : decode cJ12_listIterator 1 = .ok (.iload_n 1, 1) := dk_27 (dk_at dksJ12_listIterator_0 1 rfl rfl)
theorem dJ12_listIterator_2 : decode cJ12_listIterator 2 = .ok (.invokevirtual 135, 3) := dk_182 0 135 (dk_at dksJ12_listIterator_0 2 rfl rfl)
theorem dJ12_listIterator_5 : decode cJ12_listIterator 5 = .ok (.new 262, 3) := dk_187 1 6 (dk_at dksJ12_listIterator_0 5 rfl rfl)
theorem dJ12_listIterator_8 : decode cJ12_listIterator 8 = .ok (.dup, 1) := dk_89 (dk_at dksJ12_listIterator_0 8 rfl rfl)
theorem dJ12_listIterator_9 : decode cJ12_listIterator 9 = .ok (.aload_n 0, 1) := dk_42 (dk_at dksJ12_listIterator_0 9 rfl rfl)
theorem dJ12_listIterator_10 : decode cJ12_listIterator 10 = .ok (.iload_n 1, 1) := dk_27 (dk_at dksJ12_listIterator_0 10 rfl rfl)
theorem dJ12_listIterator_11 : decode cJ12_listIterator 11 = .ok (.invokespecial 264, 3) := dk_183 1 8 (dk_at dksJ12_listIterator_0 11 rfl rfl)
theorem dJ12_listIterator_14 : decode cJ12_listIterator 14 = .ok (.areturn, 1) := dk_176 (dk_at dksJ12_listIterator_0 14 rfl rfl)
abbrev cJ12_rangeCheckForAdd : ByteArray := prog_50_method_45_code
def yJ12_rangeCheckForAdd : MethodName := ⟨RJ12, "rangeCheckForAdd", "(I)V"⟩
def dkwJ12_rangeCheckForAdd_1 : List UInt8 := [191, 177]
abbrev dktJ12_rangeCheckForAdd_1 : List UInt8 := dkwJ12_rangeCheckForAdd_1 ++ []
def dkwJ12_rangeCheckForAdd_0 : List UInt8 := [27, 42, 180, 0, 48, 163, 0, 7, 27, 156, 0, 16, 187, 0, 187, 89, 42, 27, 182, 0, 198, 183, 0, 193]
abbrev dktJ12_rangeCheckForAdd_0 : List UInt8 := dkwJ12_rangeCheckForAdd_0 ++ dktJ12_rangeCheckForAdd_1
theorem dksJ12_rangeCheckForAdd_0 : cJ12_rangeCheckForAdd.data.toList.drop 0 = dktJ12_rangeCheckForAdd_0 := by decide +kernel
theorem dksJ12_rangeCheckForAdd_1 : cJ12_rangeCheckForAdd.data.toList.drop 24 = dktJ12_rangeCheckForAdd_1 := dk_seg dksJ12_rangeCheckForAdd_0 24 rfl rfl
theorem dJ12_rangeCheckForAdd_0 : decode cJ12_rangeCheckForAdd 0 = .ok (.iload_n 1, 1) := dk_27 (dk_at dksJ12_rangeCheckForAdd_0 0 rfl rfl)
theorem dJ12_rangeCheckForAdd_1 : decode cJ12_rangeCheckForAdd 1 = .ok (.aload_n 0, 1) := dk_42 (dk_at dksJ12_rangeCheckForAdd_0 1 rfl rfl)
theorem dJ12_rangeCheckForAdd_2 : decode cJ12_rangeCheckForAdd 2 = .ok (.getfield 48, 3) := dk_180 0 48 (dk_at dksJ12_rangeCheckForAdd_0 2 rfl rfl)
theorem dJ12_rangeCheckForAdd_5 : decode cJ12_rangeCheckForAdd 5 = .ok (.if_icmp .gt 7, 3) := dk_163 0 7 (dk_at dksJ12_rangeCheckForAdd_0 5 rfl rfl)
theorem dJ12_rangeCheckForAdd_8 : decode cJ12_rangeCheckForAdd 8 = .ok (.iload_n 1, 1) := dk_27 (dk_at dksJ12_rangeCheckForAdd_0 8 rfl rfl)
theorem dJ12_rangeCheckForAdd_9 : decode cJ12_rangeCheckForAdd 9 = .ok (.ifCond .ge 16, 3) := dk_156 0 16 (dk_at dksJ12_rangeCheckForAdd_0 9 rfl rfl)
theorem dJ12_rangeCheckForAdd_12 : decode cJ12_rangeCheckForAdd 12 = .ok (.new 187, 3) := dk_187 0 187 (dk_at dksJ12_rangeCheckForAdd_0 12 rfl rfl)
theorem dJ12_rangeCheckForAdd_15 : decode cJ12_rangeCheckForAdd 15 = .ok (.dup, 1) := dk_89 (dk_at dksJ12_rangeCheckForAdd_0 15 rfl rfl)
theorem dJ12_rangeCheckForAdd_16 : decode cJ12_rangeCheckForAdd 16 = .ok (.aload_n 0, 1) := dk_42 (dk_at dksJ12_rangeCheckForAdd_0 16 rfl rfl)
theorem dJ12_rangeCheckForAdd_17 : decode cJ12_rangeCheckForAdd 17 = .ok (.iload_n 1, 1) := dk_27 (dk_at dksJ12_rangeCheckForAdd_0 17 rfl rfl)
theorem dJ12_rangeCheckForAdd_18 : decode cJ12_rangeCheckForAdd 18 = .ok (.invokevirtual 198, 3) := dk_182 0 198 (dk_at dksJ12_rangeCheckForAdd_0 18 rfl rfl)
theorem dJ12_rangeCheckForAdd_21 : decode cJ12_rangeCheckForAdd 21 = .ok (.invokespecial 193, 3) := dk_183 0 193 (dk_at dksJ12_rangeCheckForAdd_0 21 rfl rfl)
theorem dJ12_rangeCheckForAdd_24 : decode cJ12_rangeCheckForAdd 24 = .ok (.athrow, 1) := dk_191 (dk_at dksJ12_rangeCheckForAdd_1 0 rfl rfl)
theorem dJ12_rangeCheckForAdd_25 : decode cJ12_rangeCheckForAdd 25 = .ok (.return_, 1) := dk_177 (dk_at dksJ12_rangeCheckForAdd_1 1 rfl rfl)
abbrev cJ12_outOfBoundsMsg : ByteArray := prog_50_method_46_code
def yJ12_outOfBoundsMsg : MethodName := ⟨RJ12, "outOfBoundsMsg", "(I)Ljava/lang/String;"⟩
def dkwJ12_outOfBoundsMsg_1 : List UInt8 := [180, 0, 48, 182, 0, 29, 182, 0, 32, 176]
abbrev dktJ12_outOfBoundsMsg_1 : List UInt8 := dkwJ12_outOfBoundsMsg_1 ++ []
def dkwJ12_outOfBoundsMsg_0 : List UInt8 := [187, 0, 20, 89, 183, 0, 22, 18, 201, 182, 0, 25, 27, 182, 0, 29, 18, 203, 182, 0, 25, 42]
abbrev dktJ12_outOfBoundsMsg_0 : List UInt8 := dkwJ12_outOfBoundsMsg_0 ++ dktJ12_outOfBoundsMsg_1
theorem dksJ12_outOfBoundsMsg_0 : cJ12_outOfBoundsMsg.data.toList.drop 0 = dktJ12_outOfBoundsMsg_0 := by decide +kernel
theorem dksJ12_outOfBoundsMsg_1 : cJ12_outOfBoundsMsg.data.toList.drop 22 = dktJ12_outOfBoundsMsg_1 := dk_seg dksJ12_outOfBoundsMsg_0 22 rfl rfl
theorem dJ12_outOfBoundsMsg_0 : decode cJ12_outOfBoundsMsg 0 = .ok (.new 20, 3) := dk_187 0 20 (dk_at dksJ12_outOfBoundsMsg_0 0 rfl rfl)
theorem dJ12_outOfBoundsMsg_3 : decode cJ12_outOfBoundsMsg 3 = .ok (.dup, 1) := dk_89 (dk_at dksJ12_outOfBoundsMsg_0 3 rfl rfl)
theorem dJ12_outOfBoundsMsg_4 : decode cJ12_outOfBoundsMsg 4 = .ok (.invokespecial 22, 3) := dk_183 0 22 (dk_at dksJ12_outOfBoundsMsg_0 4 rfl rfl)
theorem dJ12_outOfBoundsMsg_7 : decode cJ12_outOfBoundsMsg 7 = .ok (.ldc 201, 2) := dk_18 201 (dk_at dksJ12_outOfBoundsMsg_0 7 rfl rfl)
theorem dJ12_outOfBoundsMsg_9 : decode cJ12_outOfBoundsMsg 9 = .ok (.invokevirtual 25, 3) := dk_182 0 25 (dk_at dksJ12_outOfBoundsMsg_0 9 rfl rfl)
theorem dJ12_outOfBoundsMsg_12 : decode cJ12_outOfBoundsMsg 12 = .ok (.iload_n 1, 1) := dk_27 (dk_at dksJ12_outOfBoundsMsg_0 12 rfl rfl)
theorem dJ12_outOfBoundsMsg_13 : decode cJ12_outOfBoundsMsg 13 = .ok (.invokevirtual 29, 3) := dk_182 0 29 (dk_at dksJ12_outOfBoundsMsg_0 13 rfl rfl)
theorem dJ12_outOfBoundsMsg_16 : decode cJ12_outOfBoundsMsg 16 = .ok (.ldc 203, 2) := dk_18 203 (dk_at dksJ12_outOfBoundsMsg_0 16 rfl rfl)
theorem dJ12_outOfBoundsMsg_18 : decode cJ12_outOfBoundsMsg 18 = .ok (.invokevirtual 25, 3) := dk_182 0 25 (dk_at dksJ12_outOfBoundsMsg_0 18 rfl rfl)
theorem dJ12_outOfBoundsMsg_21 : decode cJ12_outOfBoundsMsg 21 = .ok (.aload_n 0, 1) := dk_42 (dk_at dksJ12_outOfBoundsMsg_0 21 rfl rfl)
theorem dJ12_outOfBoundsMsg_22 : decode cJ12_outOfBoundsMsg 22 = .ok (.getfield 48, 3) := dk_180 0 48 (dk_at dksJ12_outOfBoundsMsg_1 0 rfl rfl)
theorem dJ12_outOfBoundsMsg_25 : decode cJ12_outOfBoundsMsg 25 = .ok (.invokevirtual 29, 3) := dk_182 0 29 (dk_at dksJ12_outOfBoundsMsg_1 3 rfl rfl)
theorem dJ12_outOfBoundsMsg_28 : decode cJ12_outOfBoundsMsg 28 = .ok (.invokevirtual 32, 3) := dk_182 0 32 (dk_at dksJ12_outOfBoundsMsg_1 6 rfl rfl)
theorem dJ12_outOfBoundsMsg_31 : decode cJ12_outOfBoundsMsg 31 = .ok (.areturn, 1) := dk_176 (dk_at dksJ12_outOfBoundsMsg_1 9 rfl rfl)

/-! decode rows: J13.java_lang_IllegalArgumentException.lean.txt -/
set_option maxRecDepth 100000
abbrev cJ13_init : ByteArray := prog_24_method_2_code
def yJ13_init : MethodName := ⟨RJ13, "<init>", "(Ljava/lang/String;)V"⟩
def dkwJ13_init_0 : List UInt8 := [42, 43, 183, 0, 7, 177]
abbrev dktJ13_init_0 : List UInt8 := dkwJ13_init_0 ++ []
theorem dksJ13_init_0 : cJ13_init.data.toList.drop 0 = dktJ13_init_0 := by decide +kernel
theorem dJ13_init_0 : decode cJ13_init 0 = .ok (.aload_n 0, 1) := dk_42 (dk_at dksJ13_init_0 0 rfl rfl)
theorem dJ13_init_1 : decode cJ13_init 1 = .ok (.aload_n 1, 1) := dk_43 (dk_at dksJ13_init_0 1 rfl rfl)
theorem dJ13_init_2 : decode cJ13_init 2 = .ok (.invokespecial 7, 3) := dk_183 0 7 (dk_at dksJ13_init_0 2 rfl rfl)
theorem dJ13_init_5 : decode cJ13_init 5 = .ok (.return_, 1) := dk_177 (dk_at dksJ13_init_0 5 rfl rfl)
abbrev cJ13_init_2 : ByteArray := prog_24_method_1_code
def yJ13_init_2 : MethodName := ⟨RJ13, "<init>", "()V"⟩
theorem dJ13_init_2_0 : decode cJ13_init_2 0 = .ok (.aload_n 0, 1) := by decide +kernel
theorem dJ13_init_2_1 : decode cJ13_init_2 1 = .ok (.invokespecial 1, 3) := by decide +kernel
theorem dJ13_init_2_4 : decode cJ13_init_2 4 = .ok (.return_, 1) := by decide +kernel

/-! decode rows: J14.jdk_internal_util_ArraysSupport.lean.txt -/
set_option maxRecDepth 100000
abbrev cJ14_newLength : ByteArray := prog_75_method_27_code
def yJ14_newLength : MethodName := ⟨RJ14, "newLength", "(III)I"⟩
def dkwJ14_newLength_1 : List UInt8 := [184, 0, 201, 172]
abbrev dktJ14_newLength_1 : List UInt8 := dkwJ14_newLength_1 ++ []
def dkwJ14_newLength_0 : List UInt8 := [26, 27, 28, 184, 0, 194, 96, 62, 3, 29, 162, 0, 11, 29, 18, 200, 163, 0, 5, 29, 172, 26, 27]
abbrev dktJ14_newLength_0 : List UInt8 := dkwJ14_newLength_0 ++ dktJ14_newLength_1
theorem dksJ14_newLength_0 : cJ14_newLength.data.toList.drop 0 = dktJ14_newLength_0 := by decide +kernel
theorem dksJ14_newLength_1 : cJ14_newLength.data.toList.drop 23 = dktJ14_newLength_1 := dk_seg dksJ14_newLength_0 23 rfl rfl
theorem dJ14_newLength_0 : decode cJ14_newLength 0 = .ok (.iload_n 0, 1) := dk_26 (dk_at dksJ14_newLength_0 0 rfl rfl)
theorem dJ14_newLength_1 : decode cJ14_newLength 1 = .ok (.iload_n 1, 1) := dk_27 (dk_at dksJ14_newLength_0 1 rfl rfl)
theorem dJ14_newLength_2 : decode cJ14_newLength 2 = .ok (.iload_n 2, 1) := dk_28 (dk_at dksJ14_newLength_0 2 rfl rfl)
theorem dJ14_newLength_3 : decode cJ14_newLength 3 = .ok (.invokestatic 194, 3) := dk_184 0 194 (dk_at dksJ14_newLength_0 3 rfl rfl)
theorem dJ14_newLength_6 : decode cJ14_newLength 6 = .ok (.iadd, 1) := dk_96 (dk_at dksJ14_newLength_0 6 rfl rfl)
theorem dJ14_newLength_7 : decode cJ14_newLength 7 = .ok (.istore_n 3, 1) := dk_62 (dk_at dksJ14_newLength_0 7 rfl rfl)
theorem dJ14_newLength_8 : decode cJ14_newLength 8 = .ok (.iconst 0, 1) := dk_3 (dk_at dksJ14_newLength_0 8 rfl rfl)
theorem dJ14_newLength_9 : decode cJ14_newLength 9 = .ok (.iload_n 3, 1) := dk_29 (dk_at dksJ14_newLength_0 9 rfl rfl)
theorem dJ14_newLength_10 : decode cJ14_newLength 10 = .ok (.if_icmp .ge 11, 3) := dk_162 0 11 (dk_at dksJ14_newLength_0 10 rfl rfl)
theorem dJ14_newLength_13 : decode cJ14_newLength 13 = .ok (.iload_n 3, 1) := dk_29 (dk_at dksJ14_newLength_0 13 rfl rfl)
theorem dJ14_newLength_14 : decode cJ14_newLength 14 = .ok (.ldc 200, 2) := dk_18 200 (dk_at dksJ14_newLength_0 14 rfl rfl)
theorem dJ14_newLength_16 : decode cJ14_newLength 16 = .ok (.if_icmp .gt 5, 3) := dk_163 0 5 (dk_at dksJ14_newLength_0 16 rfl rfl)
theorem dJ14_newLength_19 : decode cJ14_newLength 19 = .ok (.iload_n 3, 1) := dk_29 (dk_at dksJ14_newLength_0 19 rfl rfl)
theorem dJ14_newLength_20 : decode cJ14_newLength 20 = .ok (.ireturn, 1) := dk_172 (dk_at dksJ14_newLength_0 20 rfl rfl)
theorem dJ14_newLength_21 : decode cJ14_newLength 21 = .ok (.iload_n 0, 1) := dk_26 (dk_at dksJ14_newLength_0 21 rfl rfl)
theorem dJ14_newLength_22 : decode cJ14_newLength 22 = .ok (.iload_n 1, 1) := dk_27 (dk_at dksJ14_newLength_0 22 rfl rfl)
theorem dJ14_newLength_23 : decode cJ14_newLength 23 = .ok (.invokestatic 201, 3) := dk_184 0 201 (dk_at dksJ14_newLength_1 0 rfl rfl)
theorem dJ14_newLength_26 : decode cJ14_newLength 26 = .ok (.ireturn, 1) := dk_172 (dk_at dksJ14_newLength_1 3 rfl rfl)
abbrev cJ14_hugeLength : ByteArray := prog_75_method_28_code
def yJ14_hugeLength : MethodName := ⟨RJ14, "hugeLength", "(II)I"⟩
def dkwJ14_hugeLength_2 : List UInt8 := [191, 28, 18, 200, 163, 0, 6, 18, 200, 172, 28, 172]
abbrev dktJ14_hugeLength_2 : List UInt8 := dkwJ14_hugeLength_2 ++ []
def dkwJ14_hugeLength_1 : List UInt8 := [26, 182, 0, 98, 18, 208, 182, 0, 94, 27, 182, 0, 98, 18, 210, 182, 0, 94, 182, 0, 101, 183, 0, 212]
abbrev dktJ14_hugeLength_1 : List UInt8 := dkwJ14_hugeLength_1 ++ dktJ14_hugeLength_2
def dkwJ14_hugeLength_0 : List UInt8 := [26, 27, 96, 61, 28, 156, 0, 44, 187, 0, 204, 89, 187, 0, 89, 89, 183, 0, 91, 18, 206, 182, 0, 94]
abbrev dktJ14_hugeLength_0 : List UInt8 := dkwJ14_hugeLength_0 ++ dktJ14_hugeLength_1
theorem dksJ14_hugeLength_0 : cJ14_hugeLength.data.toList.drop 0 = dktJ14_hugeLength_0 := by decide +kernel
theorem dksJ14_hugeLength_1 : cJ14_hugeLength.data.toList.drop 24 = dktJ14_hugeLength_1 := dk_seg dksJ14_hugeLength_0 24 rfl rfl
theorem dksJ14_hugeLength_2 : cJ14_hugeLength.data.toList.drop 48 = dktJ14_hugeLength_2 := dk_seg dksJ14_hugeLength_1 24 rfl rfl
theorem dJ14_hugeLength_0 : decode cJ14_hugeLength 0 = .ok (.iload_n 0, 1) := dk_26 (dk_at dksJ14_hugeLength_0 0 rfl rfl)
theorem dJ14_hugeLength_1 : decode cJ14_hugeLength 1 = .ok (.iload_n 1, 1) := dk_27 (dk_at dksJ14_hugeLength_0 1 rfl rfl)
theorem dJ14_hugeLength_2 : decode cJ14_hugeLength 2 = .ok (.iadd, 1) := dk_96 (dk_at dksJ14_hugeLength_0 2 rfl rfl)
theorem dJ14_hugeLength_3 : decode cJ14_hugeLength 3 = .ok (.istore_n 2, 1) := dk_61 (dk_at dksJ14_hugeLength_0 3 rfl rfl)
theorem dJ14_hugeLength_4 : decode cJ14_hugeLength 4 = .ok (.iload_n 2, 1) := dk_28 (dk_at dksJ14_hugeLength_0 4 rfl rfl)
theorem dJ14_hugeLength_5 : decode cJ14_hugeLength 5 = .ok (.ifCond .ge 44, 3) := dk_156 0 44 (dk_at dksJ14_hugeLength_0 5 rfl rfl)
theorem dJ14_hugeLength_8 : decode cJ14_hugeLength 8 = .ok (.new 204, 3) := dk_187 0 204 (dk_at dksJ14_hugeLength_0 8 rfl rfl)
theorem dJ14_hugeLength_11 : decode cJ14_hugeLength 11 = .ok (.dup, 1) := dk_89 (dk_at dksJ14_hugeLength_0 11 rfl rfl)
theorem dJ14_hugeLength_12 : decode cJ14_hugeLength 12 = .ok (.new 89, 3) := dk_187 0 89 (dk_at dksJ14_hugeLength_0 12 rfl rfl)
theorem dJ14_hugeLength_15 : decode cJ14_hugeLength 15 = .ok (.dup, 1) := dk_89 (dk_at dksJ14_hugeLength_0 15 rfl rfl)
theorem dJ14_hugeLength_16 : decode cJ14_hugeLength 16 = .ok (.invokespecial 91, 3) := dk_183 0 91 (dk_at dksJ14_hugeLength_0 16 rfl rfl)
theorem dJ14_hugeLength_19 : decode cJ14_hugeLength 19 = .ok (.ldc 206, 2) := dk_18 206 (dk_at dksJ14_hugeLength_0 19 rfl rfl)
theorem dJ14_hugeLength_21 : decode cJ14_hugeLength 21 = .ok (.invokevirtual 94, 3) := dk_182 0 94 (dk_at dksJ14_hugeLength_0 21 rfl rfl)
theorem dJ14_hugeLength_24 : decode cJ14_hugeLength 24 = .ok (.iload_n 0, 1) := dk_26 (dk_at dksJ14_hugeLength_1 0 rfl rfl)
theorem dJ14_hugeLength_25 : decode cJ14_hugeLength 25 = .ok (.invokevirtual 98, 3) := dk_182 0 98 (dk_at dksJ14_hugeLength_1 1 rfl rfl)
theorem dJ14_hugeLength_28 : decode cJ14_hugeLength 28 = .ok (.ldc 208, 2) := dk_18 208 (dk_at dksJ14_hugeLength_1 4 rfl rfl)
theorem dJ14_hugeLength_30 : decode cJ14_hugeLength 30 = .ok (.invokevirtual 94, 3) := dk_182 0 94 (dk_at dksJ14_hugeLength_1 6 rfl rfl)
theorem dJ14_hugeLength_33 : decode cJ14_hugeLength 33 = .ok (.iload_n 1, 1) := dk_27 (dk_at dksJ14_hugeLength_1 9 rfl rfl)
theorem dJ14_hugeLength_34 : decode cJ14_hugeLength 34 = .ok (.invokevirtual 98, 3) := dk_182 0 98 (dk_at dksJ14_hugeLength_1 10 rfl rfl)
theorem dJ14_hugeLength_37 : decode cJ14_hugeLength 37 = .ok (.ldc 210, 2) := dk_18 210 (dk_at dksJ14_hugeLength_1 13 rfl rfl)
theorem dJ14_hugeLength_39 : decode cJ14_hugeLength 39 = .ok (.invokevirtual 94, 3) := dk_182 0 94 (dk_at dksJ14_hugeLength_1 15 rfl rfl)
theorem dJ14_hugeLength_42 : decode cJ14_hugeLength 42 = .ok (.invokevirtual 101, 3) := dk_182 0 101 (dk_at dksJ14_hugeLength_1 18 rfl rfl)
theorem dJ14_hugeLength_45 : decode cJ14_hugeLength 45 = .ok (.invokespecial 212, 3) := dk_183 0 212 (dk_at dksJ14_hugeLength_1 21 rfl rfl)
theorem dJ14_hugeLength_48 : decode cJ14_hugeLength 48 = .ok (.athrow, 1) := dk_191 (dk_at dksJ14_hugeLength_2 0 rfl rfl)
theorem dJ14_hugeLength_49 : decode cJ14_hugeLength 49 = .ok (.iload_n 2, 1) := dk_28 (dk_at dksJ14_hugeLength_2 1 rfl rfl)
theorem dJ14_hugeLength_50 : decode cJ14_hugeLength 50 = .ok (.ldc 200, 2) := dk_18 200 (dk_at dksJ14_hugeLength_2 2 rfl rfl)
theorem dJ14_hugeLength_52 : decode cJ14_hugeLength 52 = .ok (.if_icmp .gt 6, 3) := dk_163 0 6 (dk_at dksJ14_hugeLength_2 4 rfl rfl)
theorem dJ14_hugeLength_55 : decode cJ14_hugeLength 55 = .ok (.ldc 200, 2) := dk_18 200 (dk_at dksJ14_hugeLength_2 7 rfl rfl)
theorem dJ14_hugeLength_57 : decode cJ14_hugeLength 57 = .ok (.ireturn, 1) := dk_172 (dk_at dksJ14_hugeLength_2 9 rfl rfl)
theorem dJ14_hugeLength_58 : decode cJ14_hugeLength 58 = .ok (.iload_n 2, 1) := dk_28 (dk_at dksJ14_hugeLength_2 10 rfl rfl)
theorem dJ14_hugeLength_59 : decode cJ14_hugeLength 59 = .ok (.ireturn, 1) := dk_172 (dk_at dksJ14_hugeLength_2 11 rfl rfl)
abbrev cJ14_vectorizedHashCode : ByteArray := prog_75_method_4_code
def yJ14_vectorizedHashCode : MethodName := ⟨RJ14, "vectorizedHashCode", "(Ljava/lang/Object;IIII)I"⟩
def dkwJ14_vectorizedHashCode_6 : List UInt8 := [183, 0, 91, 18, 92, 182, 0, 94, 21, 4, 182, 0, 98, 182, 0, 101, 183, 0, 105, 191, 172]
abbrev dktJ14_vectorizedHashCode_6 : List UInt8 := dkwJ14_vectorizedHashCode_6 ++ []
def dkwJ14_vectorizedHashCode_5 : List UInt8 := [167, 0, 44, 29, 42, 192, 0, 82, 27, 28, 184, 0, 84, 167, 0, 31, 187, 0, 87, 89, 187, 0, 89, 89]
abbrev dktJ14_vectorizedHashCode_5 : List UInt8 := dkwJ14_vectorizedHashCode_5 ++ dktJ14_vectorizedHashCode_6
def dkwJ14_vectorizedHashCode_4 : List UInt8 := [29, 42, 192, 0, 60, 27, 28, 184, 0, 75, 167, 0, 57, 29, 42, 192, 0, 77, 27, 28, 184, 0, 79]
abbrev dktJ14_vectorizedHashCode_4 : List UInt8 := dkwJ14_vectorizedHashCode_4 ++ dktJ14_vectorizedHashCode_5
def dkwJ14_vectorizedHashCode_3 : List UInt8 := [192, 0, 60, 27, 28, 184, 0, 66, 167, 0, 83, 29, 42, 192, 0, 69, 27, 28, 184, 0, 71, 167, 0, 70]
abbrev dktJ14_vectorizedHashCode_3 : List UInt8 := dkwJ14_vectorizedHashCode_3 ++ dktJ14_vectorizedHashCode_4
def dkwJ14_vectorizedHashCode_2 : List UInt8 := [29, 42, 192, 0, 60, 27, 28, 184, 0, 62, 167, 0, 103, 42, 193, 0, 60, 153, 0, 16, 29, 42]
abbrev dktJ14_vectorizedHashCode_2 : List UInt8 := dkwJ14_vectorizedHashCode_2 ++ dktJ14_vectorizedHashCode_3
def dkwJ14_vectorizedHashCode_1 : List UInt8 := [170, 0, 0, 0, 0, 127, 0, 0, 0, 4, 0, 0, 0, 10, 0, 0, 0, 42, 0, 0, 0, 55, 0, 0, 0, 127, 0, 0, 0, 127, 0, 0, 0, 88, 0, 0, 0, 101, 0, 0, 0, 114]
abbrev dktJ14_vectorizedHashCode_1 : List UInt8 := dkwJ14_vectorizedHashCode_1 ++ dktJ14_vectorizedHashCode_2
def dkwJ14_vectorizedHashCode_0 : List UInt8 := [21, 4]
abbrev dktJ14_vectorizedHashCode_0 : List UInt8 := dkwJ14_vectorizedHashCode_0 ++ dktJ14_vectorizedHashCode_1
theorem dksJ14_vectorizedHashCode_0 : cJ14_vectorizedHashCode.data.toList.drop 0 = dktJ14_vectorizedHashCode_0 := by decide +kernel
theorem dksJ14_vectorizedHashCode_1 : cJ14_vectorizedHashCode.data.toList.drop 2 = dktJ14_vectorizedHashCode_1 := dk_seg dksJ14_vectorizedHashCode_0 2 rfl rfl
theorem dksJ14_vectorizedHashCode_2 : cJ14_vectorizedHashCode.data.toList.drop 44 = dktJ14_vectorizedHashCode_2 := dk_seg dksJ14_vectorizedHashCode_1 42 rfl rfl
theorem dksJ14_vectorizedHashCode_3 : cJ14_vectorizedHashCode.data.toList.drop 66 = dktJ14_vectorizedHashCode_3 := dk_seg dksJ14_vectorizedHashCode_2 22 rfl rfl
theorem dksJ14_vectorizedHashCode_4 : cJ14_vectorizedHashCode.data.toList.drop 90 = dktJ14_vectorizedHashCode_4 := dk_seg dksJ14_vectorizedHashCode_3 24 rfl rfl
theorem dksJ14_vectorizedHashCode_5 : cJ14_vectorizedHashCode.data.toList.drop 113 = dktJ14_vectorizedHashCode_5 := dk_seg dksJ14_vectorizedHashCode_4 23 rfl rfl
theorem dksJ14_vectorizedHashCode_6 : cJ14_vectorizedHashCode.data.toList.drop 137 = dktJ14_vectorizedHashCode_6 := dk_seg dksJ14_vectorizedHashCode_5 24 rfl rfl
theorem dJ14_vectorizedHashCode_0 : decode cJ14_vectorizedHashCode 0 = .ok (.iload 4, 2) := dk_21 4 (dk_at dksJ14_vectorizedHashCode_0 0 rfl rfl)
theorem dJ14_vectorizedHashCode_2 : decode cJ14_vectorizedHashCode 2 = .ok (.tableswitch 127 4 10 #[42, 55, 127, 127, 88, 101, 114], 42) := by decide +kernel
theorem dJ14_vectorizedHashCode_44 : decode cJ14_vectorizedHashCode 44 = .ok (.iload_n 3, 1) := dk_29 (dk_at dksJ14_vectorizedHashCode_2 0 rfl rfl)
theorem dJ14_vectorizedHashCode_45 : decode cJ14_vectorizedHashCode 45 = .ok (.aload_n 0, 1) := dk_42 (dk_at dksJ14_vectorizedHashCode_2 1 rfl rfl)
theorem dJ14_vectorizedHashCode_46 : decode cJ14_vectorizedHashCode 46 = .ok (.checkcast 60, 3) := dk_192 0 60 (dk_at dksJ14_vectorizedHashCode_2 2 rfl rfl)
theorem dJ14_vectorizedHashCode_49 : decode cJ14_vectorizedHashCode 49 = .ok (.iload_n 1, 1) := dk_27 (dk_at dksJ14_vectorizedHashCode_2 5 rfl rfl)
theorem dJ14_vectorizedHashCode_50 : decode cJ14_vectorizedHashCode 50 = .ok (.iload_n 2, 1) := dk_28 (dk_at dksJ14_vectorizedHashCode_2 6 rfl rfl)
theorem dJ14_vectorizedHashCode_51 : decode cJ14_vectorizedHashCode 51 = .ok (.invokestatic 62, 3) := dk_184 0 62 (dk_at dksJ14_vectorizedHashCode_2 7 rfl rfl)
theorem dJ14_vectorizedHashCode_54 : decode cJ14_vectorizedHashCode 54 = .ok (.goto 103, 3) := dk_167 0 103 (dk_at dksJ14_vectorizedHashCode_2 10 rfl rfl)
theorem dJ14_vectorizedHashCode_57 : decode cJ14_vectorizedHashCode 57 = .ok (.aload_n 0, 1) := dk_42 (dk_at dksJ14_vectorizedHashCode_2 13 rfl rfl)
theorem dJ14_vectorizedHashCode_58 : decode cJ14_vectorizedHashCode 58 = .ok (.instanceof 60, 3) := dk_193 0 60 (dk_at dksJ14_vectorizedHashCode_2 14 rfl rfl)
theorem dJ14_vectorizedHashCode_61 : decode cJ14_vectorizedHashCode 61 = .ok (.ifCond .eq 16, 3) := dk_153 0 16 (dk_at dksJ14_vectorizedHashCode_2 17 rfl rfl)
theorem dJ14_vectorizedHashCode_64 : decode cJ14_vectorizedHashCode 64 = .ok (.iload_n 3, 1) := dk_29 (dk_at dksJ14_vectorizedHashCode_2 20 rfl rfl)
theorem dJ14_vectorizedHashCode_65 : decode cJ14_vectorizedHashCode 65 = .ok (.aload_n 0, 1) := dk_42 (dk_at dksJ14_vectorizedHashCode_2 21 rfl rfl)
theorem dJ14_vectorizedHashCode_66 : decode cJ14_vectorizedHashCode 66 = .ok (.checkcast 60, 3) := dk_192 0 60 (dk_at dksJ14_vectorizedHashCode_3 0 rfl rfl)
theorem dJ14_vectorizedHashCode_69 : decode cJ14_vectorizedHashCode 69 = .ok (.iload_n 1, 1) := dk_27 (dk_at dksJ14_vectorizedHashCode_3 3 rfl rfl)
theorem dJ14_vectorizedHashCode_70 : decode cJ14_vectorizedHashCode 70 = .ok (.iload_n 2, 1) := dk_28 (dk_at dksJ14_vectorizedHashCode_3 4 rfl rfl)
theorem dJ14_vectorizedHashCode_71 : decode cJ14_vectorizedHashCode 71 = .ok (.invokestatic 66, 3) := dk_184 0 66 (dk_at dksJ14_vectorizedHashCode_3 5 rfl rfl)
theorem dJ14_vectorizedHashCode_74 : decode cJ14_vectorizedHashCode 74 = .ok (.goto 83, 3) := dk_167 0 83 (dk_at dksJ14_vectorizedHashCode_3 8 rfl rfl)
theorem dJ14_vectorizedHashCode_77 : decode cJ14_vectorizedHashCode 77 = .ok (.iload_n 3, 1) := dk_29 (dk_at dksJ14_vectorizedHashCode_3 11 rfl rfl)
theorem dJ14_vectorizedHashCode_78 : decode cJ14_vectorizedHashCode 78 = .ok (.aload_n 0, 1) := dk_42 (dk_at dksJ14_vectorizedHashCode_3 12 rfl rfl)
theorem dJ14_vectorizedHashCode_79 : decode cJ14_vectorizedHashCode 79 = .ok (.checkcast 69, 3) := dk_192 0 69 (dk_at dksJ14_vectorizedHashCode_3 13 rfl rfl)
theorem dJ14_vectorizedHashCode_82 : decode cJ14_vectorizedHashCode 82 = .ok (.iload_n 1, 1) := dk_27 (dk_at dksJ14_vectorizedHashCode_3 16 rfl rfl)
theorem dJ14_vectorizedHashCode_83 : decode cJ14_vectorizedHashCode 83 = .ok (.iload_n 2, 1) := dk_28 (dk_at dksJ14_vectorizedHashCode_3 17 rfl rfl)
theorem dJ14_vectorizedHashCode_84 : decode cJ14_vectorizedHashCode 84 = .ok (.invokestatic 71, 3) := dk_184 0 71 (dk_at dksJ14_vectorizedHashCode_3 18 rfl rfl)
theorem dJ14_vectorizedHashCode_87 : decode cJ14_vectorizedHashCode 87 = .ok (.goto 70, 3) := dk_167 0 70 (dk_at dksJ14_vectorizedHashCode_3 21 rfl rfl)
theorem dJ14_vectorizedHashCode_90 : decode cJ14_vectorizedHashCode 90 = .ok (.iload_n 3, 1) := dk_29 (dk_at dksJ14_vectorizedHashCode_4 0 rfl rfl)
theorem dJ14_vectorizedHashCode_91 : decode cJ14_vectorizedHashCode 91 = .ok (.aload_n 0, 1) := dk_42 (dk_at dksJ14_vectorizedHashCode_4 1 rfl rfl)
theorem dJ14_vectorizedHashCode_92 : decode cJ14_vectorizedHashCode 92 = .ok (.checkcast 60, 3) := dk_192 0 60 (dk_at dksJ14_vectorizedHashCode_4 2 rfl rfl)
theorem dJ14_vectorizedHashCode_95 : decode cJ14_vectorizedHashCode 95 = .ok (.iload_n 1, 1) := dk_27 (dk_at dksJ14_vectorizedHashCode_4 5 rfl rfl)
theorem dJ14_vectorizedHashCode_96 : decode cJ14_vectorizedHashCode 96 = .ok (.iload_n 2, 1) := dk_28 (dk_at dksJ14_vectorizedHashCode_4 6 rfl rfl)
theorem dJ14_vectorizedHashCode_97 : decode cJ14_vectorizedHashCode 97 = .ok (.invokestatic 75, 3) := dk_184 0 75 (dk_at dksJ14_vectorizedHashCode_4 7 rfl rfl)
theorem dJ14_vectorizedHashCode_100 : decode cJ14_vectorizedHashCode 100 = .ok (.goto 57, 3) := dk_167 0 57 (dk_at dksJ14_vectorizedHashCode_4 10 rfl rfl)
theorem dJ14_vectorizedHashCode_103 : decode cJ14_vectorizedHashCode 103 = .ok (.iload_n 3, 1) := dk_29 (dk_at dksJ14_vectorizedHashCode_4 13 rfl rfl)
theorem dJ14_vectorizedHashCode_104 : decode cJ14_vectorizedHashCode 104 = .ok (.aload_n 0, 1) := dk_42 (dk_at dksJ14_vectorizedHashCode_4 14 rfl rfl)
theorem dJ14_vectorizedHashCode_105 : decode cJ14_vectorizedHashCode 105 = .ok (.checkcast 77, 3) := dk_192 0 77 (dk_at dksJ14_vectorizedHashCode_4 15 rfl rfl)
theorem dJ14_vectorizedHashCode_108 : decode cJ14_vectorizedHashCode 108 = .ok (.iload_n 1, 1) := dk_27 (dk_at dksJ14_vectorizedHashCode_4 18 rfl rfl)
theorem dJ14_vectorizedHashCode_109 : decode cJ14_vectorizedHashCode 109 = .ok (.iload_n 2, 1) := dk_28 (dk_at dksJ14_vectorizedHashCode_4 19 rfl rfl)
theorem dJ14_vectorizedHashCode_110 : decode cJ14_vectorizedHashCode 110 = .ok (.invokestatic 79, 3) := dk_184 0 79 (dk_at dksJ14_vectorizedHashCode_4 20 rfl rfl)
theorem dJ14_vectorizedHashCode_113 : decode cJ14_vectorizedHashCode 113 = .ok (.goto 44, 3) := dk_167 0 44 (dk_at dksJ14_vectorizedHashCode_5 0 rfl rfl)
theorem dJ14_vectorizedHashCode_116 : decode cJ14_vectorizedHashCode 116 = .ok (.iload_n 3, 1) := dk_29 (dk_at dksJ14_vectorizedHashCode_5 3 rfl rfl)
theorem dJ14_vectorizedHashCode_117 : decode cJ14_vectorizedHashCode 117 = .ok (.aload_n 0, 1) := dk_42 (dk_at dksJ14_vectorizedHashCode_5 4 rfl rfl)
theorem dJ14_vectorizedHashCode_118 : decode cJ14_vectorizedHashCode 118 = .ok (.checkcast 82, 3) := dk_192 0 82 (dk_at dksJ14_vectorizedHashCode_5 5 rfl rfl)
theorem dJ14_vectorizedHashCode_121 : decode cJ14_vectorizedHashCode 121 = .ok (.iload_n 1, 1) := dk_27 (dk_at dksJ14_vectorizedHashCode_5 8 rfl rfl)
theorem dJ14_vectorizedHashCode_122 : decode cJ14_vectorizedHashCode 122 = .ok (.iload_n 2, 1) := dk_28 (dk_at dksJ14_vectorizedHashCode_5 9 rfl rfl)
theorem dJ14_vectorizedHashCode_123 : decode cJ14_vectorizedHashCode 123 = .ok (.invokestatic 84, 3) := dk_184 0 84 (dk_at dksJ14_vectorizedHashCode_5 10 rfl rfl)
theorem dJ14_vectorizedHashCode_126 : decode cJ14_vectorizedHashCode 126 = .ok (.goto 31, 3) := dk_167 0 31 (dk_at dksJ14_vectorizedHashCode_5 13 rfl rfl)
theorem dJ14_vectorizedHashCode_129 : decode cJ14_vectorizedHashCode 129 = .ok (.new 87, 3) := dk_187 0 87 (dk_at dksJ14_vectorizedHashCode_5 16 rfl rfl)
theorem dJ14_vectorizedHashCode_132 : decode cJ14_vectorizedHashCode 132 = .ok (.dup, 1) := dk_89 (dk_at dksJ14_vectorizedHashCode_5 19 rfl rfl)
theorem dJ14_vectorizedHashCode_133 : decode cJ14_vectorizedHashCode 133 = .ok (.new 89, 3) := dk_187 0 89 (dk_at dksJ14_vectorizedHashCode_5 20 rfl rfl)
theorem dJ14_vectorizedHashCode_136 : decode cJ14_vectorizedHashCode 136 = .ok (.dup, 1) := dk_89 (dk_at dksJ14_vectorizedHashCode_5 23 rfl rfl)
theorem dJ14_vectorizedHashCode_137 : decode cJ14_vectorizedHashCode 137 = .ok (.invokespecial 91, 3) := dk_183 0 91 (dk_at dksJ14_vectorizedHashCode_6 0 rfl rfl)
theorem dJ14_vectorizedHashCode_140 : decode cJ14_vectorizedHashCode 140 = .ok (.ldc 92, 2) := dk_18 92 (dk_at dksJ14_vectorizedHashCode_6 3 rfl rfl)
theorem dJ14_vectorizedHashCode_142 : decode cJ14_vectorizedHashCode 142 = .ok (.invokevirtual 94, 3) := dk_182 0 94 (dk_at dksJ14_vectorizedHashCode_6 5 rfl rfl)
theorem dJ14_vectorizedHashCode_145 : decode cJ14_vectorizedHashCode 145 = .ok (.iload 4, 2) := dk_21 4 (dk_at dksJ14_vectorizedHashCode_6 8 rfl rfl)
theorem dJ14_vectorizedHashCode_147 : decode cJ14_vectorizedHashCode 147 = .ok (.invokevirtual 98, 3) := dk_182 0 98 (dk_at dksJ14_vectorizedHashCode_6 10 rfl rfl)
theorem dJ14_vectorizedHashCode_150 : decode cJ14_vectorizedHashCode 150 = .ok (.invokevirtual 101, 3) := dk_182 0 101 (dk_at dksJ14_vectorizedHashCode_6 13 rfl rfl)
theorem dJ14_vectorizedHashCode_153 : decode cJ14_vectorizedHashCode 153 = .ok (.invokespecial 105, 3) := dk_183 0 105 (dk_at dksJ14_vectorizedHashCode_6 16 rfl rfl)
theorem dJ14_vectorizedHashCode_156 : decode cJ14_vectorizedHashCode 156 = .ok (.athrow, 1) := dk_191 (dk_at dksJ14_vectorizedHashCode_6 19 rfl rfl)
theorem dJ14_vectorizedHashCode_157 : decode cJ14_vectorizedHashCode 157 = .ok (.ireturn, 1) := dk_172 (dk_at dksJ14_vectorizedHashCode_6 20 rfl rfl)
abbrev cJ14_signedHashCode : ByteArray := prog_75_method_5_code
def yJ14_signedHashCode : MethodName := ⟨RJ14, "signedHashCode", "(I[BII)I"⟩
def dkwJ14_signedHashCode_1 : List UInt8 := [17, 0, 255, 126, 96, 59, 132, 5, 1, 167, 255, 232, 26, 172]
abbrev dktJ14_signedHashCode_1 : List UInt8 := dkwJ14_signedHashCode_1 ++ []
def dkwJ14_signedHashCode_0 : List UInt8 := [28, 29, 96, 54, 4, 28, 54, 5, 21, 5, 21, 4, 162, 0, 23, 16, 31, 26, 104, 43, 21, 5, 51]
abbrev dktJ14_signedHashCode_0 : List UInt8 := dkwJ14_signedHashCode_0 ++ dktJ14_signedHashCode_1
theorem dksJ14_signedHashCode_0 : cJ14_signedHashCode.data.toList.drop 0 = dktJ14_signedHashCode_0 := by decide +kernel
theorem dksJ14_signedHashCode_1 : cJ14_signedHashCode.data.toList.drop 23 = dktJ14_signedHashCode_1 := dk_seg dksJ14_signedHashCode_0 23 rfl rfl
theorem dJ14_signedHashCode_0 : decode cJ14_signedHashCode 0 = .ok (.iload_n 2, 1) := dk_28 (dk_at dksJ14_signedHashCode_0 0 rfl rfl)
theorem dJ14_signedHashCode_1 : decode cJ14_signedHashCode 1 = .ok (.iload_n 3, 1) := dk_29 (dk_at dksJ14_signedHashCode_0 1 rfl rfl)
theorem dJ14_signedHashCode_2 : decode cJ14_signedHashCode 2 = .ok (.iadd, 1) := dk_96 (dk_at dksJ14_signedHashCode_0 2 rfl rfl)
theorem dJ14_signedHashCode_3 : decode cJ14_signedHashCode 3 = .ok (.istore 4, 2) := dk_54 4 (dk_at dksJ14_signedHashCode_0 3 rfl rfl)
theorem dJ14_signedHashCode_5 : decode cJ14_signedHashCode 5 = .ok (.iload_n 2, 1) := dk_28 (dk_at dksJ14_signedHashCode_0 5 rfl rfl)
theorem dJ14_signedHashCode_6 : decode cJ14_signedHashCode 6 = .ok (.istore 5, 2) := dk_54 5 (dk_at dksJ14_signedHashCode_0 6 rfl rfl)
theorem dJ14_signedHashCode_8 : decode cJ14_signedHashCode 8 = .ok (.iload 5, 2) := dk_21 5 (dk_at dksJ14_signedHashCode_0 8 rfl rfl)
theorem dJ14_signedHashCode_10 : decode cJ14_signedHashCode 10 = .ok (.iload 4, 2) := dk_21 4 (dk_at dksJ14_signedHashCode_0 10 rfl rfl)
theorem dJ14_signedHashCode_12 : decode cJ14_signedHashCode 12 = .ok (.if_icmp .ge 23, 3) := dk_162 0 23 (dk_at dksJ14_signedHashCode_0 12 rfl rfl)
theorem dJ14_signedHashCode_15 : decode cJ14_signedHashCode 15 = .ok (.bipush 31, 2) := dk_16 31 (dk_at dksJ14_signedHashCode_0 15 rfl rfl)
theorem dJ14_signedHashCode_17 : decode cJ14_signedHashCode 17 = .ok (.iload_n 0, 1) := dk_26 (dk_at dksJ14_signedHashCode_0 17 rfl rfl)
theorem dJ14_signedHashCode_18 : decode cJ14_signedHashCode 18 = .ok (.imul, 1) := dk_104 (dk_at dksJ14_signedHashCode_0 18 rfl rfl)
theorem dJ14_signedHashCode_19 : decode cJ14_signedHashCode 19 = .ok (.aload_n 1, 1) := dk_43 (dk_at dksJ14_signedHashCode_0 19 rfl rfl)
theorem dJ14_signedHashCode_20 : decode cJ14_signedHashCode 20 = .ok (.iload 5, 2) := dk_21 5 (dk_at dksJ14_signedHashCode_0 20 rfl rfl)
theorem dJ14_signedHashCode_22 : decode cJ14_signedHashCode 22 = .ok (.baload, 1) := dk_51 (dk_at dksJ14_signedHashCode_0 22 rfl rfl)
theorem dJ14_signedHashCode_23 : decode cJ14_signedHashCode 23 = .ok (.sipush 255, 3) := dk_17 0 255 (dk_at dksJ14_signedHashCode_1 0 rfl rfl)
theorem dJ14_signedHashCode_26 : decode cJ14_signedHashCode 26 = .ok (.iand, 1) := dk_126 (dk_at dksJ14_signedHashCode_1 3 rfl rfl)
theorem dJ14_signedHashCode_27 : decode cJ14_signedHashCode 27 = .ok (.iadd, 1) := dk_96 (dk_at dksJ14_signedHashCode_1 4 rfl rfl)
theorem dJ14_signedHashCode_28 : decode cJ14_signedHashCode 28 = .ok (.istore_n 0, 1) := dk_59 (dk_at dksJ14_signedHashCode_1 5 rfl rfl)
theorem dJ14_signedHashCode_29 : decode cJ14_signedHashCode 29 = .ok (.iinc 5 1, 3) := dk_132 5 1 (dk_at dksJ14_signedHashCode_1 6 rfl rfl)
theorem dJ14_signedHashCode_32 : decode cJ14_signedHashCode 32 = .ok (.goto (-24), 3) := dk_167 255 232 (dk_at dksJ14_signedHashCode_1 9 rfl rfl)
theorem dJ14_signedHashCode_35 : decode cJ14_signedHashCode 35 = .ok (.iload_n 0, 1) := dk_26 (dk_at dksJ14_signedHashCode_1 12 rfl rfl)
theorem dJ14_signedHashCode_36 : decode cJ14_signedHashCode 36 = .ok (.ireturn, 1) := dk_172 (dk_at dksJ14_signedHashCode_1 13 rfl rfl)
abbrev cJ14_utf16hashCode : ByteArray := prog_75_method_10_code
def yJ14_utf16hashCode : MethodName := ⟨RJ14, "utf16hashCode", "(I[BII)I"⟩
def dkwJ14_utf16hashCode_1 : List UInt8 := [21, 5, 185, 0, 110, 3, 0, 96, 59, 132, 5, 1, 167, 255, 229, 26, 172]
abbrev dktJ14_utf16hashCode_1 : List UInt8 := dkwJ14_utf16hashCode_1 ++ []
def dkwJ14_utf16hashCode_0 : List UInt8 := [28, 29, 96, 54, 4, 28, 54, 5, 21, 5, 21, 4, 162, 0, 26, 16, 31, 26, 104, 178, 0, 106, 43]
abbrev dktJ14_utf16hashCode_0 : List UInt8 := dkwJ14_utf16hashCode_0 ++ dktJ14_utf16hashCode_1
theorem dksJ14_utf16hashCode_0 : cJ14_utf16hashCode.data.toList.drop 0 = dktJ14_utf16hashCode_0 := by decide +kernel
theorem dksJ14_utf16hashCode_1 : cJ14_utf16hashCode.data.toList.drop 23 = dktJ14_utf16hashCode_1 := dk_seg dksJ14_utf16hashCode_0 23 rfl rfl
theorem dJ14_utf16hashCode_0 : decode cJ14_utf16hashCode 0 = .ok (.iload_n 2, 1) := dk_28 (dk_at dksJ14_utf16hashCode_0 0 rfl rfl)
theorem dJ14_utf16hashCode_1 : decode cJ14_utf16hashCode 1 = .ok (.iload_n 3, 1) := dk_29 (dk_at dksJ14_utf16hashCode_0 1 rfl rfl)
theorem dJ14_utf16hashCode_2 : decode cJ14_utf16hashCode 2 = .ok (.iadd, 1) := dk_96 (dk_at dksJ14_utf16hashCode_0 2 rfl rfl)
theorem dJ14_utf16hashCode_3 : decode cJ14_utf16hashCode 3 = .ok (.istore 4, 2) := dk_54 4 (dk_at dksJ14_utf16hashCode_0 3 rfl rfl)
theorem dJ14_utf16hashCode_5 : decode cJ14_utf16hashCode 5 = .ok (.iload_n 2, 1) := dk_28 (dk_at dksJ14_utf16hashCode_0 5 rfl rfl)
theorem dJ14_utf16hashCode_6 : decode cJ14_utf16hashCode 6 = .ok (.istore 5, 2) := dk_54 5 (dk_at dksJ14_utf16hashCode_0 6 rfl rfl)
theorem dJ14_utf16hashCode_8 : decode cJ14_utf16hashCode 8 = .ok (.iload 5, 2) := dk_21 5 (dk_at dksJ14_utf16hashCode_0 8 rfl rfl)
theorem dJ14_utf16hashCode_10 : decode cJ14_utf16hashCode 10 = .ok (.iload 4, 2) := dk_21 4 (dk_at dksJ14_utf16hashCode_0 10 rfl rfl)
theorem dJ14_utf16hashCode_12 : decode cJ14_utf16hashCode 12 = .ok (.if_icmp .ge 26, 3) := dk_162 0 26 (dk_at dksJ14_utf16hashCode_0 12 rfl rfl)
theorem dJ14_utf16hashCode_15 : decode cJ14_utf16hashCode 15 = .ok (.bipush 31, 2) := dk_16 31 (dk_at dksJ14_utf16hashCode_0 15 rfl rfl)
theorem dJ14_utf16hashCode_17 : decode cJ14_utf16hashCode 17 = .ok (.iload_n 0, 1) := dk_26 (dk_at dksJ14_utf16hashCode_0 17 rfl rfl)
theorem dJ14_utf16hashCode_18 : decode cJ14_utf16hashCode 18 = .ok (.imul, 1) := dk_104 (dk_at dksJ14_utf16hashCode_0 18 rfl rfl)
theorem dJ14_utf16hashCode_19 : decode cJ14_utf16hashCode 19 = .ok (.getstatic 106, 3) := dk_178 0 106 (dk_at dksJ14_utf16hashCode_0 19 rfl rfl)
theorem dJ14_utf16hashCode_22 : decode cJ14_utf16hashCode 22 = .ok (.aload_n 1, 1) := dk_43 (dk_at dksJ14_utf16hashCode_0 22 rfl rfl)
theorem dJ14_utf16hashCode_23 : decode cJ14_utf16hashCode 23 = .ok (.iload 5, 2) := dk_21 5 (dk_at dksJ14_utf16hashCode_1 0 rfl rfl)
theorem dJ14_utf16hashCode_25 : decode cJ14_utf16hashCode 25 = .ok (.invokeinterface 110 3, 5) := by decide +kernel
theorem dJ14_utf16hashCode_30 : decode cJ14_utf16hashCode 30 = .ok (.iadd, 1) := dk_96 (dk_at dksJ14_utf16hashCode_1 7 rfl rfl)
theorem dJ14_utf16hashCode_31 : decode cJ14_utf16hashCode 31 = .ok (.istore_n 0, 1) := dk_59 (dk_at dksJ14_utf16hashCode_1 8 rfl rfl)
theorem dJ14_utf16hashCode_32 : decode cJ14_utf16hashCode 32 = .ok (.iinc 5 1, 3) := dk_132 5 1 (dk_at dksJ14_utf16hashCode_1 9 rfl rfl)
theorem dJ14_utf16hashCode_35 : decode cJ14_utf16hashCode 35 = .ok (.goto (-27), 3) := dk_167 255 229 (dk_at dksJ14_utf16hashCode_1 12 rfl rfl)
theorem dJ14_utf16hashCode_38 : decode cJ14_utf16hashCode 38 = .ok (.iload_n 0, 1) := dk_26 (dk_at dksJ14_utf16hashCode_1 15 rfl rfl)
theorem dJ14_utf16hashCode_39 : decode cJ14_utf16hashCode 39 = .ok (.ireturn, 1) := dk_172 (dk_at dksJ14_utf16hashCode_1 16 rfl rfl)
abbrev cJ14_hashCode : ByteArray := prog_75_method_7_code
def yJ14_hashCode : MethodName := ⟨RJ14, "hashCode", "(I[CII)I"⟩
def dkwJ14_hashCode_1 : List UInt8 := [59, 132, 5, 1, 167, 255, 236, 26, 172]
abbrev dktJ14_hashCode_1 : List UInt8 := dkwJ14_hashCode_1 ++ []
def dkwJ14_hashCode_0 : List UInt8 := [28, 29, 96, 54, 4, 28, 54, 5, 21, 5, 21, 4, 162, 0, 19, 16, 31, 26, 104, 43, 21, 5, 52, 96]
abbrev dktJ14_hashCode_0 : List UInt8 := dkwJ14_hashCode_0 ++ dktJ14_hashCode_1
theorem dksJ14_hashCode_0 : cJ14_hashCode.data.toList.drop 0 = dktJ14_hashCode_0 := by decide +kernel
theorem dksJ14_hashCode_1 : cJ14_hashCode.data.toList.drop 24 = dktJ14_hashCode_1 := dk_seg dksJ14_hashCode_0 24 rfl rfl
theorem dJ14_hashCode_0 : decode cJ14_hashCode 0 = .ok (.iload_n 2, 1) := dk_28 (dk_at dksJ14_hashCode_0 0 rfl rfl)
theorem dJ14_hashCode_1 : decode cJ14_hashCode 1 = .ok (.iload_n 3, 1) := dk_29 (dk_at dksJ14_hashCode_0 1 rfl rfl)
theorem dJ14_hashCode_2 : decode cJ14_hashCode 2 = .ok (.iadd, 1) := dk_96 (dk_at dksJ14_hashCode_0 2 rfl rfl)
theorem dJ14_hashCode_3 : decode cJ14_hashCode 3 = .ok (.istore 4, 2) := dk_54 4 (dk_at dksJ14_hashCode_0 3 rfl rfl)
theorem dJ14_hashCode_5 : decode cJ14_hashCode 5 = .ok (.iload_n 2, 1) := dk_28 (dk_at dksJ14_hashCode_0 5 rfl rfl)
theorem dJ14_hashCode_6 : decode cJ14_hashCode 6 = .ok (.istore 5, 2) := dk_54 5 (dk_at dksJ14_hashCode_0 6 rfl rfl)
theorem dJ14_hashCode_8 : decode cJ14_hashCode 8 = .ok (.iload 5, 2) := dk_21 5 (dk_at dksJ14_hashCode_0 8 rfl rfl)
theorem dJ14_hashCode_10 : decode cJ14_hashCode 10 = .ok (.iload 4, 2) := dk_21 4 (dk_at dksJ14_hashCode_0 10 rfl rfl)
theorem dJ14_hashCode_12 : decode cJ14_hashCode 12 = .ok (.if_icmp .ge 19, 3) := dk_162 0 19 (dk_at dksJ14_hashCode_0 12 rfl rfl)
theorem dJ14_hashCode_15 : decode cJ14_hashCode 15 = .ok (.bipush 31, 2) := dk_16 31 (dk_at dksJ14_hashCode_0 15 rfl rfl)
theorem dJ14_hashCode_17 : decode cJ14_hashCode 17 = .ok (.iload_n 0, 1) := dk_26 (dk_at dksJ14_hashCode_0 17 rfl rfl)
theorem dJ14_hashCode_18 : decode cJ14_hashCode 18 = .ok (.imul, 1) := dk_104 (dk_at dksJ14_hashCode_0 18 rfl rfl)
theorem dJ14_hashCode_19 : decode cJ14_hashCode 19 = .ok (.aload_n 1, 1) := dk_43 (dk_at dksJ14_hashCode_0 19 rfl rfl)
theorem dJ14_hashCode_20 : decode cJ14_hashCode 20 = .ok (.iload 5, 2) := dk_21 5 (dk_at dksJ14_hashCode_0 20 rfl rfl)
theorem dJ14_hashCode_22 : decode cJ14_hashCode 22 = .ok (.caload, 1) := dk_52 (dk_at dksJ14_hashCode_0 22 rfl rfl)
theorem dJ14_hashCode_23 : decode cJ14_hashCode 23 = .ok (.iadd, 1) := dk_96 (dk_at dksJ14_hashCode_0 23 rfl rfl)
theorem dJ14_hashCode_24 : decode cJ14_hashCode 24 = .ok (.istore_n 0, 1) := dk_59 (dk_at dksJ14_hashCode_1 0 rfl rfl)
theorem dJ14_hashCode_25 : decode cJ14_hashCode 25 = .ok (.iinc 5 1, 3) := dk_132 5 1 (dk_at dksJ14_hashCode_1 1 rfl rfl)
theorem dJ14_hashCode_28 : decode cJ14_hashCode 28 = .ok (.goto (-20), 3) := dk_167 255 236 (dk_at dksJ14_hashCode_1 4 rfl rfl)
theorem dJ14_hashCode_31 : decode cJ14_hashCode 31 = .ok (.iload_n 0, 1) := dk_26 (dk_at dksJ14_hashCode_1 7 rfl rfl)
theorem dJ14_hashCode_32 : decode cJ14_hashCode 32 = .ok (.ireturn, 1) := dk_172 (dk_at dksJ14_hashCode_1 8 rfl rfl)
abbrev cJ14_hashCode_2 : ByteArray := prog_75_method_6_code
def yJ14_hashCode_2 : MethodName := ⟨RJ14, "hashCode", "(I[BII)I"⟩
def dkwJ14_hashCode_2_1 : List UInt8 := [59, 132, 5, 1, 167, 255, 236, 26, 172]
abbrev dktJ14_hashCode_2_1 : List UInt8 := dkwJ14_hashCode_2_1 ++ []
def dkwJ14_hashCode_2_0 : List UInt8 := [28, 29, 96, 54, 4, 28, 54, 5, 21, 5, 21, 4, 162, 0, 19, 16, 31, 26, 104, 43, 21, 5, 51, 96]
abbrev dktJ14_hashCode_2_0 : List UInt8 := dkwJ14_hashCode_2_0 ++ dktJ14_hashCode_2_1
theorem dksJ14_hashCode_2_0 : cJ14_hashCode_2.data.toList.drop 0 = dktJ14_hashCode_2_0 := by decide +kernel
theorem dksJ14_hashCode_2_1 : cJ14_hashCode_2.data.toList.drop 24 = dktJ14_hashCode_2_1 := dk_seg dksJ14_hashCode_2_0 24 rfl rfl
theorem dJ14_hashCode_2_0 : decode cJ14_hashCode_2 0 = .ok (.iload_n 2, 1) := dk_28 (dk_at dksJ14_hashCode_2_0 0 rfl rfl)
theorem dJ14_hashCode_2_1 : decode cJ14_hashCode_2 1 = .ok (.iload_n 3, 1) := dk_29 (dk_at dksJ14_hashCode_2_0 1 rfl rfl)
theorem dJ14_hashCode_2_2 : decode cJ14_hashCode_2 2 = .ok (.iadd, 1) := dk_96 (dk_at dksJ14_hashCode_2_0 2 rfl rfl)
theorem dJ14_hashCode_2_3 : decode cJ14_hashCode_2 3 = .ok (.istore 4, 2) := dk_54 4 (dk_at dksJ14_hashCode_2_0 3 rfl rfl)
theorem dJ14_hashCode_2_5 : decode cJ14_hashCode_2 5 = .ok (.iload_n 2, 1) := dk_28 (dk_at dksJ14_hashCode_2_0 5 rfl rfl)
theorem dJ14_hashCode_2_6 : decode cJ14_hashCode_2 6 = .ok (.istore 5, 2) := dk_54 5 (dk_at dksJ14_hashCode_2_0 6 rfl rfl)
theorem dJ14_hashCode_2_8 : decode cJ14_hashCode_2 8 = .ok (.iload 5, 2) := dk_21 5 (dk_at dksJ14_hashCode_2_0 8 rfl rfl)
theorem dJ14_hashCode_2_10 : decode cJ14_hashCode_2 10 = .ok (.iload 4, 2) := dk_21 4 (dk_at dksJ14_hashCode_2_0 10 rfl rfl)
theorem dJ14_hashCode_2_12 : decode cJ14_hashCode_2 12 = .ok (.if_icmp .ge 19, 3) := dk_162 0 19 (dk_at dksJ14_hashCode_2_0 12 rfl rfl)
theorem dJ14_hashCode_2_15 : decode cJ14_hashCode_2 15 = .ok (.bipush 31, 2) := dk_16 31 (dk_at dksJ14_hashCode_2_0 15 rfl rfl)
theorem dJ14_hashCode_2_17 : decode cJ14_hashCode_2 17 = .ok (.iload_n 0, 1) := dk_26 (dk_at dksJ14_hashCode_2_0 17 rfl rfl)
theorem dJ14_hashCode_2_18 : decode cJ14_hashCode_2 18 = .ok (.imul, 1) := dk_104 (dk_at dksJ14_hashCode_2_0 18 rfl rfl)
theorem dJ14_hashCode_2_19 : decode cJ14_hashCode_2 19 = .ok (.aload_n 1, 1) := dk_43 (dk_at dksJ14_hashCode_2_0 19 rfl rfl)
theorem dJ14_hashCode_2_20 : decode cJ14_hashCode_2 20 = .ok (.iload 5, 2) := dk_21 5 (dk_at dksJ14_hashCode_2_0 20 rfl rfl)
theorem dJ14_hashCode_2_22 : decode cJ14_hashCode_2 22 = .ok (.baload, 1) := dk_51 (dk_at dksJ14_hashCode_2_0 22 rfl rfl)
theorem dJ14_hashCode_2_23 : decode cJ14_hashCode_2 23 = .ok (.iadd, 1) := dk_96 (dk_at dksJ14_hashCode_2_0 23 rfl rfl)
theorem dJ14_hashCode_2_24 : decode cJ14_hashCode_2 24 = .ok (.istore_n 0, 1) := dk_59 (dk_at dksJ14_hashCode_2_1 0 rfl rfl)
theorem dJ14_hashCode_2_25 : decode cJ14_hashCode_2 25 = .ok (.iinc 5 1, 3) := dk_132 5 1 (dk_at dksJ14_hashCode_2_1 1 rfl rfl)
theorem dJ14_hashCode_2_28 : decode cJ14_hashCode_2 28 = .ok (.goto (-20), 3) := dk_167 255 236 (dk_at dksJ14_hashCode_2_1 4 rfl rfl)
theorem dJ14_hashCode_2_31 : decode cJ14_hashCode_2 31 = .ok (.iload_n 0, 1) := dk_26 (dk_at dksJ14_hashCode_2_1 7 rfl rfl)
theorem dJ14_hashCode_2_32 : decode cJ14_hashCode_2 32 = .ok (.ireturn, 1) := dk_172 (dk_at dksJ14_hashCode_2_1 8 rfl rfl)
abbrev cJ14_hashCode_3 : ByteArray := prog_75_method_8_code
def yJ14_hashCode_3 : MethodName := ⟨RJ14, "hashCode", "(I[SII)I"⟩
def dkwJ14_hashCode_3_1 : List UInt8 := [59, 132, 5, 1, 167, 255, 236, 26, 172]
abbrev dktJ14_hashCode_3_1 : List UInt8 := dkwJ14_hashCode_3_1 ++ []
def dkwJ14_hashCode_3_0 : List UInt8 := [28, 29, 96, 54, 4, 28, 54, 5, 21, 5, 21, 4, 162, 0, 19, 16, 31, 26, 104, 43, 21, 5, 53, 96]
abbrev dktJ14_hashCode_3_0 : List UInt8 := dkwJ14_hashCode_3_0 ++ dktJ14_hashCode_3_1
theorem dksJ14_hashCode_3_0 : cJ14_hashCode_3.data.toList.drop 0 = dktJ14_hashCode_3_0 := by decide +kernel
theorem dksJ14_hashCode_3_1 : cJ14_hashCode_3.data.toList.drop 24 = dktJ14_hashCode_3_1 := dk_seg dksJ14_hashCode_3_0 24 rfl rfl
theorem dJ14_hashCode_3_0 : decode cJ14_hashCode_3 0 = .ok (.iload_n 2, 1) := dk_28 (dk_at dksJ14_hashCode_3_0 0 rfl rfl)
theorem dJ14_hashCode_3_1 : decode cJ14_hashCode_3 1 = .ok (.iload_n 3, 1) := dk_29 (dk_at dksJ14_hashCode_3_0 1 rfl rfl)
theorem dJ14_hashCode_3_2 : decode cJ14_hashCode_3 2 = .ok (.iadd, 1) := dk_96 (dk_at dksJ14_hashCode_3_0 2 rfl rfl)
theorem dJ14_hashCode_3_3 : decode cJ14_hashCode_3 3 = .ok (.istore 4, 2) := dk_54 4 (dk_at dksJ14_hashCode_3_0 3 rfl rfl)
theorem dJ14_hashCode_3_5 : decode cJ14_hashCode_3 5 = .ok (.iload_n 2, 1) := dk_28 (dk_at dksJ14_hashCode_3_0 5 rfl rfl)
theorem dJ14_hashCode_3_6 : decode cJ14_hashCode_3 6 = .ok (.istore 5, 2) := dk_54 5 (dk_at dksJ14_hashCode_3_0 6 rfl rfl)
theorem dJ14_hashCode_3_8 : decode cJ14_hashCode_3 8 = .ok (.iload 5, 2) := dk_21 5 (dk_at dksJ14_hashCode_3_0 8 rfl rfl)
theorem dJ14_hashCode_3_10 : decode cJ14_hashCode_3 10 = .ok (.iload 4, 2) := dk_21 4 (dk_at dksJ14_hashCode_3_0 10 rfl rfl)
theorem dJ14_hashCode_3_12 : decode cJ14_hashCode_3 12 = .ok (.if_icmp .ge 19, 3) := dk_162 0 19 (dk_at dksJ14_hashCode_3_0 12 rfl rfl)
theorem dJ14_hashCode_3_15 : decode cJ14_hashCode_3 15 = .ok (.bipush 31, 2) := dk_16 31 (dk_at dksJ14_hashCode_3_0 15 rfl rfl)
theorem dJ14_hashCode_3_17 : decode cJ14_hashCode_3 17 = .ok (.iload_n 0, 1) := dk_26 (dk_at dksJ14_hashCode_3_0 17 rfl rfl)
theorem dJ14_hashCode_3_18 : decode cJ14_hashCode_3 18 = .ok (.imul, 1) := dk_104 (dk_at dksJ14_hashCode_3_0 18 rfl rfl)
theorem dJ14_hashCode_3_19 : decode cJ14_hashCode_3 19 = .ok (.aload_n 1, 1) := dk_43 (dk_at dksJ14_hashCode_3_0 19 rfl rfl)
theorem dJ14_hashCode_3_20 : decode cJ14_hashCode_3 20 = .ok (.iload 5, 2) := dk_21 5 (dk_at dksJ14_hashCode_3_0 20 rfl rfl)
theorem dJ14_hashCode_3_22 : decode cJ14_hashCode_3 22 = .ok (.saload, 1) := dk_53 (dk_at dksJ14_hashCode_3_0 22 rfl rfl)
theorem dJ14_hashCode_3_23 : decode cJ14_hashCode_3 23 = .ok (.iadd, 1) := dk_96 (dk_at dksJ14_hashCode_3_0 23 rfl rfl)
theorem dJ14_hashCode_3_24 : decode cJ14_hashCode_3 24 = .ok (.istore_n 0, 1) := dk_59 (dk_at dksJ14_hashCode_3_1 0 rfl rfl)
theorem dJ14_hashCode_3_25 : decode cJ14_hashCode_3 25 = .ok (.iinc 5 1, 3) := dk_132 5 1 (dk_at dksJ14_hashCode_3_1 1 rfl rfl)
theorem dJ14_hashCode_3_28 : decode cJ14_hashCode_3 28 = .ok (.goto (-20), 3) := dk_167 255 236 (dk_at dksJ14_hashCode_3_1 4 rfl rfl)
theorem dJ14_hashCode_3_31 : decode cJ14_hashCode_3 31 = .ok (.iload_n 0, 1) := dk_26 (dk_at dksJ14_hashCode_3_1 7 rfl rfl)
theorem dJ14_hashCode_3_32 : decode cJ14_hashCode_3 32 = .ok (.ireturn, 1) := dk_172 (dk_at dksJ14_hashCode_3_1 8 rfl rfl)
abbrev cJ14_hashCode_4 : ByteArray := prog_75_method_9_code
def yJ14_hashCode_4 : MethodName := ⟨RJ14, "hashCode", "(I[III)I"⟩
def dkwJ14_hashCode_4_1 : List UInt8 := [59, 132, 5, 1, 167, 255, 236, 26, 172]
abbrev dktJ14_hashCode_4_1 : List UInt8 := dkwJ14_hashCode_4_1 ++ []
def dkwJ14_hashCode_4_0 : List UInt8 := [28, 29, 96, 54, 4, 28, 54, 5, 21, 5, 21, 4, 162, 0, 19, 16, 31, 26, 104, 43, 21, 5, 46, 96]
abbrev dktJ14_hashCode_4_0 : List UInt8 := dkwJ14_hashCode_4_0 ++ dktJ14_hashCode_4_1
theorem dksJ14_hashCode_4_0 : cJ14_hashCode_4.data.toList.drop 0 = dktJ14_hashCode_4_0 := by decide +kernel
theorem dksJ14_hashCode_4_1 : cJ14_hashCode_4.data.toList.drop 24 = dktJ14_hashCode_4_1 := dk_seg dksJ14_hashCode_4_0 24 rfl rfl
theorem dJ14_hashCode_4_0 : decode cJ14_hashCode_4 0 = .ok (.iload_n 2, 1) := dk_28 (dk_at dksJ14_hashCode_4_0 0 rfl rfl)
theorem dJ14_hashCode_4_1 : decode cJ14_hashCode_4 1 = .ok (.iload_n 3, 1) := dk_29 (dk_at dksJ14_hashCode_4_0 1 rfl rfl)
theorem dJ14_hashCode_4_2 : decode cJ14_hashCode_4 2 = .ok (.iadd, 1) := dk_96 (dk_at dksJ14_hashCode_4_0 2 rfl rfl)
theorem dJ14_hashCode_4_3 : decode cJ14_hashCode_4 3 = .ok (.istore 4, 2) := dk_54 4 (dk_at dksJ14_hashCode_4_0 3 rfl rfl)
theorem dJ14_hashCode_4_5 : decode cJ14_hashCode_4 5 = .ok (.iload_n 2, 1) := dk_28 (dk_at dksJ14_hashCode_4_0 5 rfl rfl)
theorem dJ14_hashCode_4_6 : decode cJ14_hashCode_4 6 = .ok (.istore 5, 2) := dk_54 5 (dk_at dksJ14_hashCode_4_0 6 rfl rfl)
theorem dJ14_hashCode_4_8 : decode cJ14_hashCode_4 8 = .ok (.iload 5, 2) := dk_21 5 (dk_at dksJ14_hashCode_4_0 8 rfl rfl)
theorem dJ14_hashCode_4_10 : decode cJ14_hashCode_4 10 = .ok (.iload 4, 2) := dk_21 4 (dk_at dksJ14_hashCode_4_0 10 rfl rfl)
theorem dJ14_hashCode_4_12 : decode cJ14_hashCode_4 12 = .ok (.if_icmp .ge 19, 3) := dk_162 0 19 (dk_at dksJ14_hashCode_4_0 12 rfl rfl)
theorem dJ14_hashCode_4_15 : decode cJ14_hashCode_4 15 = .ok (.bipush 31, 2) := dk_16 31 (dk_at dksJ14_hashCode_4_0 15 rfl rfl)
theorem dJ14_hashCode_4_17 : decode cJ14_hashCode_4 17 = .ok (.iload_n 0, 1) := dk_26 (dk_at dksJ14_hashCode_4_0 17 rfl rfl)
theorem dJ14_hashCode_4_18 : decode cJ14_hashCode_4 18 = .ok (.imul, 1) := dk_104 (dk_at dksJ14_hashCode_4_0 18 rfl rfl)
theorem dJ14_hashCode_4_19 : decode cJ14_hashCode_4 19 = .ok (.aload_n 1, 1) := dk_43 (dk_at dksJ14_hashCode_4_0 19 rfl rfl)
theorem dJ14_hashCode_4_20 : decode cJ14_hashCode_4 20 = .ok (.iload 5, 2) := dk_21 5 (dk_at dksJ14_hashCode_4_0 20 rfl rfl)
theorem dJ14_hashCode_4_22 : decode cJ14_hashCode_4 22 = .ok (.iaload, 1) := dk_46 (dk_at dksJ14_hashCode_4_0 22 rfl rfl)
theorem dJ14_hashCode_4_23 : decode cJ14_hashCode_4 23 = .ok (.iadd, 1) := dk_96 (dk_at dksJ14_hashCode_4_0 23 rfl rfl)
theorem dJ14_hashCode_4_24 : decode cJ14_hashCode_4 24 = .ok (.istore_n 0, 1) := dk_59 (dk_at dksJ14_hashCode_4_1 0 rfl rfl)
theorem dJ14_hashCode_4_25 : decode cJ14_hashCode_4 25 = .ok (.iinc 5 1, 3) := dk_132 5 1 (dk_at dksJ14_hashCode_4_1 1 rfl rfl)
theorem dJ14_hashCode_4_28 : decode cJ14_hashCode_4 28 = .ok (.goto (-20), 3) := dk_167 255 236 (dk_at dksJ14_hashCode_4_1 4 rfl rfl)
theorem dJ14_hashCode_4_31 : decode cJ14_hashCode_4 31 = .ok (.iload_n 0, 1) := dk_26 (dk_at dksJ14_hashCode_4_1 7 rfl rfl)
theorem dJ14_hashCode_4_32 : decode cJ14_hashCode_4 32 = .ok (.ireturn, 1) := dk_172 (dk_at dksJ14_hashCode_4_1 8 rfl rfl)

/-! decode rows: J15.java_lang_Math.lean.txt -/
set_option maxRecDepth 100000
abbrev cJ15_max : ByteArray := prog_31_method_65_code
def yJ15_max : MethodName := ⟨RJ15, "max", "(II)I"⟩
def dkwJ15_max_0 : List UInt8 := [26, 27, 161, 0, 7, 26, 167, 0, 4, 27, 172]
abbrev dktJ15_max_0 : List UInt8 := dkwJ15_max_0 ++ []
theorem dksJ15_max_0 : cJ15_max.data.toList.drop 0 = dktJ15_max_0 := by decide +kernel
theorem dJ15_max_0 : decode cJ15_max 0 = .ok (.iload_n 0, 1) := dk_26 (dk_at dksJ15_max_0 0 rfl rfl)
theorem dJ15_max_1 : decode cJ15_max 1 = .ok (.iload_n 1, 1) := dk_27 (dk_at dksJ15_max_0 1 rfl rfl)
theorem dJ15_max_2 : decode cJ15_max 2 = .ok (.if_icmp .lt 7, 3) := dk_161 0 7 (dk_at dksJ15_max_0 2 rfl rfl)
theorem dJ15_max_5 : decode cJ15_max 5 = .ok (.iload_n 0, 1) := dk_26 (dk_at dksJ15_max_0 5 rfl rfl)
theorem dJ15_max_6 : decode cJ15_max 6 = .ok (.goto 4, 3) := dk_167 0 4 (dk_at dksJ15_max_0 6 rfl rfl)
theorem dJ15_max_9 : decode cJ15_max 9 = .ok (.iload_n 1, 1) := dk_27 (dk_at dksJ15_max_0 9 rfl rfl)
theorem dJ15_max_10 : decode cJ15_max 10 = .ok (.ireturn, 1) := dk_172 (dk_at dksJ15_max_0 10 rfl rfl)
abbrev cJ15_min : ByteArray := prog_31_method_69_code
def yJ15_min : MethodName := ⟨RJ15, "min", "(II)I"⟩
def dkwJ15_min_0 : List UInt8 := [26, 27, 163, 0, 7, 26, 167, 0, 4, 27, 172]
abbrev dktJ15_min_0 : List UInt8 := dkwJ15_min_0 ++ []
theorem dksJ15_min_0 : cJ15_min.data.toList.drop 0 = dktJ15_min_0 := by decide +kernel
theorem dJ15_min_0 : decode cJ15_min 0 = .ok (.iload_n 0, 1) := dk_26 (dk_at dksJ15_min_0 0 rfl rfl)
theorem dJ15_min_1 : decode cJ15_min 1 = .ok (.iload_n 1, 1) := dk_27 (dk_at dksJ15_min_0 1 rfl rfl)
theorem dJ15_min_2 : decode cJ15_min 2 = .ok (.if_icmp .gt 7, 3) := dk_163 0 7 (dk_at dksJ15_min_0 2 rfl rfl)
theorem dJ15_min_5 : decode cJ15_min 5 = .ok (.iload_n 0, 1) := dk_26 (dk_at dksJ15_min_0 5 rfl rfl)
theorem dJ15_min_6 : decode cJ15_min 6 = .ok (.goto 4, 3) := dk_167 0 4 (dk_at dksJ15_min_0 6 rfl rfl)
theorem dJ15_min_9 : decode cJ15_min 9 = .ok (.iload_n 1, 1) := dk_27 (dk_at dksJ15_min_0 9 rfl rfl)
theorem dJ15_min_10 : decode cJ15_min 10 = .ok (.ireturn, 1) := dk_172 (dk_at dksJ15_min_0 10 rfl rfl)
abbrev cJ15_abs : ByteArray := prog_31_method_59_code
def yJ15_abs : MethodName := ⟨RJ15, "abs", "(I)I"⟩
def dkwJ15_abs_0 : List UInt8 := [26, 156, 0, 8, 26, 116, 167, 0, 4, 26, 172]
abbrev dktJ15_abs_0 : List UInt8 := dkwJ15_abs_0 ++ []
theorem dksJ15_abs_0 : cJ15_abs.data.toList.drop 0 = dktJ15_abs_0 := by decide +kernel
theorem dJ15_abs_0 : decode cJ15_abs 0 = .ok (.iload_n 0, 1) := dk_26 (dk_at dksJ15_abs_0 0 rfl rfl)
theorem dJ15_abs_1 : decode cJ15_abs 1 = .ok (.ifCond .ge 8, 3) := dk_156 0 8 (dk_at dksJ15_abs_0 1 rfl rfl)
theorem dJ15_abs_4 : decode cJ15_abs 4 = .ok (.iload_n 0, 1) := dk_26 (dk_at dksJ15_abs_0 4 rfl rfl)
theorem dJ15_abs_5 : decode cJ15_abs 5 = .ok (.ineg, 1) := dk_116 (dk_at dksJ15_abs_0 5 rfl rfl)
theorem dJ15_abs_6 : decode cJ15_abs 6 = .ok (.goto 4, 3) := dk_167 0 4 (dk_at dksJ15_abs_0 6 rfl rfl)
theorem dJ15_abs_9 : decode cJ15_abs 9 = .ok (.iload_n 0, 1) := dk_26 (dk_at dksJ15_abs_0 9 rfl rfl)
theorem dJ15_abs_10 : decode cJ15_abs 10 = .ok (.ireturn, 1) := dk_172 (dk_at dksJ15_abs_0 10 rfl rfl)
abbrev cJ15_floorMod : ByteArray := prog_31_method_50_code
def yJ15_floorMod : MethodName := ⟨RJ15, "floorMod", "(II)I"⟩
def dkwJ15_floorMod_0 : List UInt8 := [26, 27, 112, 61, 26, 27, 130, 156, 0, 11, 28, 153, 0, 7, 28, 27, 96, 172, 28, 172]
abbrev dktJ15_floorMod_0 : List UInt8 := dkwJ15_floorMod_0 ++ []
theorem dksJ15_floorMod_0 : cJ15_floorMod.data.toList.drop 0 = dktJ15_floorMod_0 := by decide +kernel
theorem dJ15_floorMod_0 : decode cJ15_floorMod 0 = .ok (.iload_n 0, 1) := dk_26 (dk_at dksJ15_floorMod_0 0 rfl rfl)
theorem dJ15_floorMod_1 : decode cJ15_floorMod 1 = .ok (.iload_n 1, 1) := dk_27 (dk_at dksJ15_floorMod_0 1 rfl rfl)
theorem dJ15_floorMod_2 : decode cJ15_floorMod 2 = .ok (.irem, 1) := dk_112 (dk_at dksJ15_floorMod_0 2 rfl rfl)
theorem dJ15_floorMod_3 : decode cJ15_floorMod 3 = .ok (.istore_n 2, 1) := dk_61 (dk_at dksJ15_floorMod_0 3 rfl rfl)
theorem dJ15_floorMod_4 : decode cJ15_floorMod 4 = .ok (.iload_n 0, 1) := dk_26 (dk_at dksJ15_floorMod_0 4 rfl rfl)
theorem dJ15_floorMod_5 : decode cJ15_floorMod 5 = .ok (.iload_n 1, 1) := dk_27 (dk_at dksJ15_floorMod_0 5 rfl rfl)
theorem dJ15_floorMod_6 : decode cJ15_floorMod 6 = .ok (.ixor, 1) := dk_130 (dk_at dksJ15_floorMod_0 6 rfl rfl)
theorem dJ15_floorMod_7 : decode cJ15_floorMod 7 = .ok (.ifCond .ge 11, 3) := dk_156 0 11 (dk_at dksJ15_floorMod_0 7 rfl rfl)
theorem dJ15_floorMod_10 : decode cJ15_floorMod 10 = .ok (.iload_n 2, 1) := dk_28 (dk_at dksJ15_floorMod_0 10 rfl rfl)
theorem dJ15_floorMod_11 : decode cJ15_floorMod 11 = .ok (.ifCond .eq 7, 3) := dk_153 0 7 (dk_at dksJ15_floorMod_0 11 rfl rfl)
theorem dJ15_floorMod_14 : decode cJ15_floorMod 14 = .ok (.iload_n 2, 1) := dk_28 (dk_at dksJ15_floorMod_0 14 rfl rfl)
theorem dJ15_floorMod_15 : decode cJ15_floorMod 15 = .ok (.iload_n 1, 1) := dk_27 (dk_at dksJ15_floorMod_0 15 rfl rfl)
theorem dJ15_floorMod_16 : decode cJ15_floorMod 16 = .ok (.iadd, 1) := dk_96 (dk_at dksJ15_floorMod_0 16 rfl rfl)
theorem dJ15_floorMod_17 : decode cJ15_floorMod 17 = .ok (.ireturn, 1) := dk_172 (dk_at dksJ15_floorMod_0 17 rfl rfl)
theorem dJ15_floorMod_18 : decode cJ15_floorMod 18 = .ok (.iload_n 2, 1) := dk_28 (dk_at dksJ15_floorMod_0 18 rfl rfl)
theorem dJ15_floorMod_19 : decode cJ15_floorMod 19 = .ok (.ireturn, 1) := dk_172 (dk_at dksJ15_floorMod_0 19 rfl rfl)
abbrev cJ15_max_2 : ByteArray := prog_31_method_66_code
def yJ15_max_2 : MethodName := ⟨RJ15, "max", "(JJ)J"⟩
def dkwJ15_max_2_0 : List UInt8 := [30, 32, 148, 155, 0, 7, 30, 167, 0, 4, 32, 173]
abbrev dktJ15_max_2_0 : List UInt8 := dkwJ15_max_2_0 ++ []
theorem dksJ15_max_2_0 : cJ15_max_2.data.toList.drop 0 = dktJ15_max_2_0 := by decide +kernel
theorem dJ15_max_2_0 : decode cJ15_max_2 0 = .ok (.lload_n 0, 1) := dk_30 (dk_at dksJ15_max_2_0 0 rfl rfl)
theorem dJ15_max_2_1 : decode cJ15_max_2 1 = .ok (.lload_n 2, 1) := dk_32 (dk_at dksJ15_max_2_0 1 rfl rfl)
theorem dJ15_max_2_2 : decode cJ15_max_2 2 = .ok (.lcmp, 1) := dk_148 (dk_at dksJ15_max_2_0 2 rfl rfl)
theorem dJ15_max_2_3 : decode cJ15_max_2 3 = .ok (.ifCond .lt 7, 3) := dk_155 0 7 (dk_at dksJ15_max_2_0 3 rfl rfl)
theorem dJ15_max_2_6 : decode cJ15_max_2 6 = .ok (.lload_n 0, 1) := dk_30 (dk_at dksJ15_max_2_0 6 rfl rfl)
theorem dJ15_max_2_7 : decode cJ15_max_2 7 = .ok (.goto 4, 3) := dk_167 0 4 (dk_at dksJ15_max_2_0 7 rfl rfl)
theorem dJ15_max_2_10 : decode cJ15_max_2 10 = .ok (.lload_n 2, 1) := dk_32 (dk_at dksJ15_max_2_0 10 rfl rfl)
theorem dJ15_max_2_11 : decode cJ15_max_2 11 = .ok (.lreturn, 1) := dk_173 (dk_at dksJ15_max_2_0 11 rfl rfl)

