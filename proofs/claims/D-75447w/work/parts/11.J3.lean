/-! decode rows: J28.java_util_ImmutableCollections_List12.lean.txt -/
set_option maxRecDepth 100000
abbrev cJ28_size : ByteArray := prog_60_method_3_code
def yJ28_size : MethodName := ⟨RJ28, "size", "()I"⟩
def dkwJ28_size_0 : List UInt8 := [42, 180, 0, 24, 178, 0, 19, 165, 0, 7, 5, 167, 0, 4, 4, 172]
abbrev dktJ28_size_0 : List UInt8 := dkwJ28_size_0 ++ []
theorem dksJ28_size_0 : cJ28_size.data.toList.drop 0 = dktJ28_size_0 := by decide +kernel
theorem dJ28_size_0 : decode cJ28_size 0 = .ok (.aload_n 0, 1) := dk_42 (dk_at dksJ28_size_0 0 rfl rfl)
theorem dJ28_size_1 : decode cJ28_size 1 = .ok (.getfield 24, 3) := dk_180 0 24 (dk_at dksJ28_size_0 1 rfl rfl)
theorem dJ28_size_4 : decode cJ28_size 4 = .ok (.getstatic 19, 3) := dk_178 0 19 (dk_at dksJ28_size_0 4 rfl rfl)
theorem dJ28_size_7 : decode cJ28_size 7 = .ok (.if_acmp .eq 7, 3) := dk_165 0 7 (dk_at dksJ28_size_0 7 rfl rfl)
theorem dJ28_size_10 : decode cJ28_size 10 = .ok (.iconst 2, 1) := dk_5 (dk_at dksJ28_size_0 10 rfl rfl)
theorem dJ28_size_11 : decode cJ28_size 11 = .ok (.goto 4, 3) := dk_167 0 4 (dk_at dksJ28_size_0 11 rfl rfl)
theorem dJ28_size_14 : decode cJ28_size 14 = .ok (.iconst 1, 1) := dk_4 (dk_at dksJ28_size_0 14 rfl rfl)
theorem dJ28_size_15 : decode cJ28_size 15 = .ok (.ireturn, 1) := dk_172 (dk_at dksJ28_size_0 15 rfl rfl)
abbrev cJ28_init : ByteArray := prog_60_method_1_code
def yJ28_init : MethodName := ⟨RJ28, "<init>", "(Ljava/lang/Object;)V"⟩
def dkwJ28_init_0 : List UInt8 := [42, 183, 0, 1, 42, 43, 184, 0, 7, 181, 0, 13, 42, 178, 0, 19, 181, 0, 24, 177]
abbrev dktJ28_init_0 : List UInt8 := dkwJ28_init_0 ++ []
theorem dksJ28_init_0 : cJ28_init.data.toList.drop 0 = dktJ28_init_0 := by decide +kernel
theorem dJ28_init_0 : decode cJ28_init 0 = .ok (.aload_n 0, 1) := dk_42 (dk_at dksJ28_init_0 0 rfl rfl)
theorem dJ28_init_1 : decode cJ28_init 1 = .ok (.invokespecial 1, 3) := dk_183 0 1 (dk_at dksJ28_init_0 1 rfl rfl)
theorem dJ28_init_4 : decode cJ28_init 4 = .ok (.aload_n 0, 1) := dk_42 (dk_at dksJ28_init_0 4 rfl rfl)
theorem dJ28_init_5 : decode cJ28_init 5 = .ok (.aload_n 1, 1) := dk_43 (dk_at dksJ28_init_0 5 rfl rfl)
theorem dJ28_init_6 : decode cJ28_init 6 = .ok (.invokestatic 7, 3) := dk_184 0 7 (dk_at dksJ28_init_0 6 rfl rfl)
theorem dJ28_init_9 : decode cJ28_init 9 = .ok (.putfield 13, 3) := dk_181 0 13 (dk_at dksJ28_init_0 9 rfl rfl)
theorem dJ28_init_12 : decode cJ28_init 12 = .ok (.aload_n 0, 1) := dk_42 (dk_at dksJ28_init_0 12 rfl rfl)
theorem dJ28_init_13 : decode cJ28_init 13 = .ok (.getstatic 19, 3) := dk_178 0 19 (dk_at dksJ28_init_0 13 rfl rfl)
theorem dJ28_init_16 : decode cJ28_init 16 = .ok (.putfield 24, 3) := dk_181 0 24 (dk_at dksJ28_init_0 16 rfl rfl)
theorem dJ28_init_19 : decode cJ28_init 19 = .ok (.return_, 1) := dk_177 (dk_at dksJ28_init_0 19 rfl rfl)
abbrev cJ28_init_2 : ByteArray := prog_60_method_2_code
def yJ28_init_2 : MethodName := ⟨RJ28, "<init>", "(Ljava/lang/Object;Ljava/lang/Object;)V"⟩
def dkwJ28_init_2_0 : List UInt8 := [42, 183, 0, 1, 42, 43, 184, 0, 7, 181, 0, 13, 42, 44, 184, 0, 7, 181, 0, 24, 177]
abbrev dktJ28_init_2_0 : List UInt8 := dkwJ28_init_2_0 ++ []
theorem dksJ28_init_2_0 : cJ28_init_2.data.toList.drop 0 = dktJ28_init_2_0 := by decide +kernel
theorem dJ28_init_2_0 : decode cJ28_init_2 0 = .ok (.aload_n 0, 1) := dk_42 (dk_at dksJ28_init_2_0 0 rfl rfl)
theorem dJ28_init_2_1 : decode cJ28_init_2 1 = .ok (.invokespecial 1, 3) := dk_183 0 1 (dk_at dksJ28_init_2_0 1 rfl rfl)
theorem dJ28_init_2_4 : decode cJ28_init_2 4 = .ok (.aload_n 0, 1) := dk_42 (dk_at dksJ28_init_2_0 4 rfl rfl)
theorem dJ28_init_2_5 : decode cJ28_init_2 5 = .ok (.aload_n 1, 1) := dk_43 (dk_at dksJ28_init_2_0 5 rfl rfl)
theorem dJ28_init_2_6 : decode cJ28_init_2 6 = .ok (.invokestatic 7, 3) := dk_184 0 7 (dk_at dksJ28_init_2_0 6 rfl rfl)
theorem dJ28_init_2_9 : decode cJ28_init_2 9 = .ok (.putfield 13, 3) := dk_181 0 13 (dk_at dksJ28_init_2_0 9 rfl rfl)
theorem dJ28_init_2_12 : decode cJ28_init_2 12 = .ok (.aload_n 0, 1) := dk_42 (dk_at dksJ28_init_2_0 12 rfl rfl)
theorem dJ28_init_2_13 : decode cJ28_init_2 13 = .ok (.aload_n 2, 1) := dk_44 (dk_at dksJ28_init_2_0 13 rfl rfl)
theorem dJ28_init_2_14 : decode cJ28_init_2 14 = .ok (.invokestatic 7, 3) := dk_184 0 7 (dk_at dksJ28_init_2_0 14 rfl rfl)
theorem dJ28_init_2_17 : decode cJ28_init_2 17 = .ok (.putfield 24, 3) := dk_181 0 24 (dk_at dksJ28_init_2_0 17 rfl rfl)
theorem dJ28_init_2_20 : decode cJ28_init_2 20 = .ok (.return_, 1) := dk_177 (dk_at dksJ28_init_2_0 20 rfl rfl)
abbrev cJ28_indexOf : ByteArray := prog_60_method_6_code
def yJ28_indexOf : MethodName := ⟨RJ28, "indexOf", "(Ljava/lang/Object;)I"⟩
def dkwJ28_indexOf_1 : List UInt8 := [178, 0, 19, 165, 0, 16, 43, 42, 180, 0, 24, 182, 0, 31, 153, 0, 5, 4, 172, 2, 172]
abbrev dktJ28_indexOf_1 : List UInt8 := dkwJ28_indexOf_1 ++ []
def dkwJ28_indexOf_0 : List UInt8 := [43, 184, 0, 7, 87, 43, 42, 180, 0, 13, 182, 0, 31, 153, 0, 5, 3, 172, 42, 180, 0, 24]
abbrev dktJ28_indexOf_0 : List UInt8 := dkwJ28_indexOf_0 ++ dktJ28_indexOf_1
theorem dksJ28_indexOf_0 : cJ28_indexOf.data.toList.drop 0 = dktJ28_indexOf_0 := by decide +kernel
theorem dksJ28_indexOf_1 : cJ28_indexOf.data.toList.drop 22 = dktJ28_indexOf_1 := dk_seg dksJ28_indexOf_0 22 rfl rfl
theorem dJ28_indexOf_0 : decode cJ28_indexOf 0 = .ok (.aload_n 1, 1) := dk_43 (dk_at dksJ28_indexOf_0 0 rfl rfl)
theorem dJ28_indexOf_1 : decode cJ28_indexOf 1 = .ok (.invokestatic 7, 3) := dk_184 0 7 (dk_at dksJ28_indexOf_0 1 rfl rfl)
theorem dJ28_indexOf_4 : decode cJ28_indexOf 4 = .ok (.pop, 1) := dk_87 (dk_at dksJ28_indexOf_0 4 rfl rfl)
theorem dJ28_indexOf_5 : decode cJ28_indexOf 5 = .ok (.aload_n 1, 1) := dk_43 (dk_at dksJ28_indexOf_0 5 rfl rfl)
theorem dJ28_indexOf_6 : decode cJ28_indexOf 6 = .ok (.aload_n 0, 1) := dk_42 (dk_at dksJ28_indexOf_0 6 rfl rfl)
theorem dJ28_indexOf_7 : decode cJ28_indexOf 7 = .ok (.getfield 13, 3) := dk_180 0 13 (dk_at dksJ28_indexOf_0 7 rfl rfl)
theorem dJ28_indexOf_10 : decode cJ28_indexOf 10 = .ok (.invokevirtual 31, 3) := dk_182 0 31 (dk_at dksJ28_indexOf_0 10 rfl rfl)
theorem dJ28_indexOf_13 : decode cJ28_indexOf 13 = .ok (.ifCond .eq 5, 3) := dk_153 0 5 (dk_at dksJ28_indexOf_0 13 rfl rfl)
theorem dJ28_indexOf_16 : decode cJ28_indexOf 16 = .ok (.iconst 0, 1) := dk_3 (dk_at dksJ28_indexOf_0 16 rfl rfl)
theorem dJ28_indexOf_17 : decode cJ28_indexOf 17 = .ok (.ireturn, 1) := dk_172 (dk_at dksJ28_indexOf_0 17 rfl rfl)
theorem dJ28_indexOf_18 : decode cJ28_indexOf 18 = .ok (.aload_n 0, 1) := dk_42 (dk_at dksJ28_indexOf_0 18 rfl rfl)
theorem dJ28_indexOf_19 : decode cJ28_indexOf 19 = .ok (.getfield 24, 3) := dk_180 0 24 (dk_at dksJ28_indexOf_0 19 rfl rfl)
theorem dJ28_indexOf_22 : decode cJ28_indexOf 22 = .ok (.getstatic 19, 3) := dk_178 0 19 (dk_at dksJ28_indexOf_1 0 rfl rfl)
theorem dJ28_indexOf_25 : decode cJ28_indexOf 25 = .ok (.if_acmp .eq 16, 3) := dk_165 0 16 (dk_at dksJ28_indexOf_1 3 rfl rfl)
theorem dJ28_indexOf_28 : decode cJ28_indexOf 28 = .ok (.aload_n 1, 1) := dk_43 (dk_at dksJ28_indexOf_1 6 rfl rfl)
theorem dJ28_indexOf_29 : decode cJ28_indexOf 29 = .ok (.aload_n 0, 1) := dk_42 (dk_at dksJ28_indexOf_1 7 rfl rfl)
theorem dJ28_indexOf_30 : decode cJ28_indexOf 30 = .ok (.getfield 24, 3) := dk_180 0 24 (dk_at dksJ28_indexOf_1 8 rfl rfl)
theorem dJ28_indexOf_33 : decode cJ28_indexOf 33 = .ok (.invokevirtual 31, 3) := dk_182 0 31 (dk_at dksJ28_indexOf_1 11 rfl rfl)
theorem dJ28_indexOf_36 : decode cJ28_indexOf 36 = .ok (.ifCond .eq 5, 3) := dk_153 0 5 (dk_at dksJ28_indexOf_1 14 rfl rfl)
theorem dJ28_indexOf_39 : decode cJ28_indexOf 39 = .ok (.iconst 1, 1) := dk_4 (dk_at dksJ28_indexOf_1 17 rfl rfl)
theorem dJ28_indexOf_40 : decode cJ28_indexOf 40 = .ok (.ireturn, 1) := dk_172 (dk_at dksJ28_indexOf_1 18 rfl rfl)
theorem dJ28_indexOf_41 : decode cJ28_indexOf 41 = .ok (.iconst (-1), 1) := dk_2 (dk_at dksJ28_indexOf_1 19 rfl rfl)
theorem dJ28_indexOf_42 : decode cJ28_indexOf 42 = .ok (.ireturn, 1) := dk_172 (dk_at dksJ28_indexOf_1 20 rfl rfl)
abbrev cJ28_isEmpty : ByteArray := prog_60_method_4_code
def yJ28_isEmpty : MethodName := ⟨RJ28, "isEmpty", "()Z"⟩
theorem dJ28_isEmpty_0 : decode cJ28_isEmpty 0 = .ok (.iconst 0, 1) := by decide +kernel
theorem dJ28_isEmpty_1 : decode cJ28_isEmpty 1 = .ok (.ireturn, 1) := by decide +kernel
abbrev cJ28_get : ByteArray := prog_60_method_5_code
def yJ28_get : MethodName := ⟨RJ28, "get", "(I)Ljava/lang/Object;"⟩
def dkwJ28_get_1 : List UInt8 := [42, 180, 0, 24, 176, 42, 27, 182, 0, 27, 191]
abbrev dktJ28_get_1 : List UInt8 := dkwJ28_get_1 ++ []
def dkwJ28_get_0 : List UInt8 := [27, 154, 0, 8, 42, 180, 0, 13, 176, 27, 4, 160, 0, 18, 42, 180, 0, 24, 178, 0, 19, 165, 0, 8]
abbrev dktJ28_get_0 : List UInt8 := dkwJ28_get_0 ++ dktJ28_get_1
theorem dksJ28_get_0 : cJ28_get.data.toList.drop 0 = dktJ28_get_0 := by decide +kernel
theorem dksJ28_get_1 : cJ28_get.data.toList.drop 24 = dktJ28_get_1 := dk_seg dksJ28_get_0 24 rfl rfl
theorem dJ28_get_0 : decode cJ28_get 0 = .ok (.iload_n 1, 1) := dk_27 (dk_at dksJ28_get_0 0 rfl rfl)
theorem dJ28_get_1 : decode cJ28_get 1 = .ok (.ifCond .ne 8, 3) := dk_154 0 8 (dk_at dksJ28_get_0 1 rfl rfl)
theorem dJ28_get_4 : decode cJ28_get 4 = .ok (.aload_n 0, 1) := dk_42 (dk_at dksJ28_get_0 4 rfl rfl)
theorem dJ28_get_5 : decode cJ28_get 5 = .ok (.getfield 13, 3) := dk_180 0 13 (dk_at dksJ28_get_0 5 rfl rfl)
theorem dJ28_get_8 : decode cJ28_get 8 = .ok (.areturn, 1) := dk_176 (dk_at dksJ28_get_0 8 rfl rfl)
theorem dJ28_get_9 : decode cJ28_get 9 = .ok (.iload_n 1, 1) := dk_27 (dk_at dksJ28_get_0 9 rfl rfl)
theorem dJ28_get_10 : decode cJ28_get 10 = .ok (.iconst 1, 1) := dk_4 (dk_at dksJ28_get_0 10 rfl rfl)
theorem dJ28_get_11 : decode cJ28_get 11 = .ok (.if_icmp .ne 18, 3) := dk_160 0 18 (dk_at dksJ28_get_0 11 rfl rfl)
theorem dJ28_get_14 : decode cJ28_get 14 = .ok (.aload_n 0, 1) := dk_42 (dk_at dksJ28_get_0 14 rfl rfl)
theorem dJ28_get_15 : decode cJ28_get 15 = .ok (.getfield 24, 3) := dk_180 0 24 (dk_at dksJ28_get_0 15 rfl rfl)
theorem dJ28_get_18 : decode cJ28_get 18 = .ok (.getstatic 19, 3) := dk_178 0 19 (dk_at dksJ28_get_0 18 rfl rfl)
theorem dJ28_get_21 : decode cJ28_get 21 = .ok (.if_acmp .eq 8, 3) := dk_165 0 8 (dk_at dksJ28_get_0 21 rfl rfl)
theorem dJ28_get_24 : decode cJ28_get 24 = .ok (.aload_n 0, 1) := dk_42 (dk_at dksJ28_get_1 0 rfl rfl)
theorem dJ28_get_25 : decode cJ28_get 25 = .ok (.getfield 24, 3) := dk_180 0 24 (dk_at dksJ28_get_1 1 rfl rfl)
theorem dJ28_get_28 : decode cJ28_get 28 = .ok (.areturn, 1) := dk_176 (dk_at dksJ28_get_1 4 rfl rfl)
theorem dJ28_get_29 : decode cJ28_get 29 = .ok (.aload_n 0, 1) := dk_42 (dk_at dksJ28_get_1 5 rfl rfl)
theorem dJ28_get_30 : decode cJ28_get 30 = .ok (.iload_n 1, 1) := dk_27 (dk_at dksJ28_get_1 6 rfl rfl)
theorem dJ28_get_31 : decode cJ28_get 31 = .ok (.invokevirtual 27, 3) := dk_182 0 27 (dk_at dksJ28_get_1 7 rfl rfl)
theorem dJ28_get_34 : decode cJ28_get 34 = .ok (.athrow, 1) := dk_191 (dk_at dksJ28_get_1 10 rfl rfl)

/-! decode rows: J29.java_util_ImmutableCollections_ListN.lean.txt -/
set_option maxRecDepth 100000
abbrev cJ29_size : ByteArray := prog_62_method_3_code
def yJ29_size : MethodName := ⟨RJ29, "size", "()I"⟩
def dkwJ29_size_0 : List UInt8 := [42, 180, 0, 7, 190, 172]
abbrev dktJ29_size_0 : List UInt8 := dkwJ29_size_0 ++ []
theorem dksJ29_size_0 : cJ29_size.data.toList.drop 0 = dktJ29_size_0 := by decide +kernel
theorem dJ29_size_0 : decode cJ29_size 0 = .ok (.aload_n 0, 1) := dk_42 (dk_at dksJ29_size_0 0 rfl rfl)
theorem dJ29_size_1 : decode cJ29_size 1 = .ok (.getfield 7, 3) := dk_180 0 7 (dk_at dksJ29_size_0 1 rfl rfl)
theorem dJ29_size_4 : decode cJ29_size 4 = .ok (.arraylength, 1) := dk_190 (dk_at dksJ29_size_0 4 rfl rfl)
theorem dJ29_size_5 : decode cJ29_size 5 = .ok (.ireturn, 1) := dk_172 (dk_at dksJ29_size_0 5 rfl rfl)
abbrev cJ29_init : ByteArray := prog_62_method_1_code
def yJ29_init : MethodName := ⟨RJ29, "<init>", "([Ljava/lang/Object;Z)V"⟩
def dkwJ29_init_0 : List UInt8 := [42, 183, 0, 1, 42, 43, 181, 0, 7, 42, 28, 181, 0, 13, 177]
abbrev dktJ29_init_0 : List UInt8 := dkwJ29_init_0 ++ []
theorem dksJ29_init_0 : cJ29_init.data.toList.drop 0 = dktJ29_init_0 := by decide +kernel
theorem dJ29_init_0 : decode cJ29_init 0 = .ok (.aload_n 0, 1) := dk_42 (dk_at dksJ29_init_0 0 rfl rfl)
theorem dJ29_init_1 : decode cJ29_init 1 = .ok (.invokespecial 1, 3) := dk_183 0 1 (dk_at dksJ29_init_0 1 rfl rfl)
theorem dJ29_init_4 : decode cJ29_init 4 = .ok (.aload_n 0, 1) := dk_42 (dk_at dksJ29_init_0 4 rfl rfl)
theorem dJ29_init_5 : decode cJ29_init 5 = .ok (.aload_n 1, 1) := dk_43 (dk_at dksJ29_init_0 5 rfl rfl)
theorem dJ29_init_6 : decode cJ29_init 6 = .ok (.putfield 7, 3) := dk_181 0 7 (dk_at dksJ29_init_0 6 rfl rfl)
theorem dJ29_init_9 : decode cJ29_init 9 = .ok (.aload_n 0, 1) := dk_42 (dk_at dksJ29_init_0 9 rfl rfl)
theorem dJ29_init_10 : decode cJ29_init 10 = .ok (.iload_n 2, 1) := dk_28 (dk_at dksJ29_init_0 10 rfl rfl)
theorem dJ29_init_11 : decode cJ29_init 11 = .ok (.putfield 13, 3) := dk_181 0 13 (dk_at dksJ29_init_0 11 rfl rfl)
theorem dJ29_init_14 : decode cJ29_init 14 = .ok (.return_, 1) := dk_177 (dk_at dksJ29_init_0 14 rfl rfl)
abbrev cJ29_indexOf : ByteArray := prog_62_method_9_code
def yJ29_indexOf : MethodName := ⟨RJ29, "indexOf", "(Ljava/lang/Object;)I"⟩
def dkwJ29_indexOf_2 : List UInt8 := [167, 255, 235, 2, 172]
abbrev dktJ29_indexOf_2 : List UInt8 := dkwJ29_indexOf_2 ++ []
def dkwJ29_indexOf_1 : List UInt8 := [3, 62, 29, 44, 190, 162, 0, 21, 43, 44, 29, 50, 184, 0, 53, 153, 0, 5, 29, 172, 132, 3, 1]
abbrev dktJ29_indexOf_1 : List UInt8 := dkwJ29_indexOf_1 ++ dktJ29_indexOf_2
def dkwJ29_indexOf_0 : List UInt8 := [42, 180, 0, 13, 154, 0, 15, 43, 199, 0, 11, 187, 0, 50, 89, 183, 0, 52, 191, 42, 180, 0, 7, 77]
abbrev dktJ29_indexOf_0 : List UInt8 := dkwJ29_indexOf_0 ++ dktJ29_indexOf_1
theorem dksJ29_indexOf_0 : cJ29_indexOf.data.toList.drop 0 = dktJ29_indexOf_0 := by decide +kernel
theorem dksJ29_indexOf_1 : cJ29_indexOf.data.toList.drop 24 = dktJ29_indexOf_1 := dk_seg dksJ29_indexOf_0 24 rfl rfl
theorem dksJ29_indexOf_2 : cJ29_indexOf.data.toList.drop 47 = dktJ29_indexOf_2 := dk_seg dksJ29_indexOf_1 23 rfl rfl
theorem dJ29_indexOf_0 : decode cJ29_indexOf 0 = .ok (.aload_n 0, 1) := dk_42 (dk_at dksJ29_indexOf_0 0 rfl rfl)
theorem dJ29_indexOf_1 : decode cJ29_indexOf 1 = .ok (.getfield 13, 3) := dk_180 0 13 (dk_at dksJ29_indexOf_0 1 rfl rfl)
theorem dJ29_indexOf_4 : decode cJ29_indexOf 4 = .ok (.ifCond .ne 15, 3) := dk_154 0 15 (dk_at dksJ29_indexOf_0 4 rfl rfl)
theorem dJ29_indexOf_7 : decode cJ29_indexOf 7 = .ok (.aload_n 1, 1) := dk_43 (dk_at dksJ29_indexOf_0 7 rfl rfl)
theorem dJ29_indexOf_8 : decode cJ29_indexOf 8 = .ok (.ifnonnull 11, 3) := dk_199 0 11 (dk_at dksJ29_indexOf_0 8 rfl rfl)
theorem dJ29_indexOf_11 : decode cJ29_indexOf 11 = .ok (.new 50, 3) := dk_187 0 50 (dk_at dksJ29_indexOf_0 11 rfl rfl)
theorem dJ29_indexOf_14 : decode cJ29_indexOf 14 = .ok (.dup, 1) := dk_89 (dk_at dksJ29_indexOf_0 14 rfl rfl)
theorem dJ29_indexOf_15 : decode cJ29_indexOf 15 = .ok (.invokespecial 52, 3) := dk_183 0 52 (dk_at dksJ29_indexOf_0 15 rfl rfl)
theorem dJ29_indexOf_18 : decode cJ29_indexOf 18 = .ok (.athrow, 1) := dk_191 (dk_at dksJ29_indexOf_0 18 rfl rfl)
theorem dJ29_indexOf_19 : decode cJ29_indexOf 19 = .ok (.aload_n 0, 1) := dk_42 (dk_at dksJ29_indexOf_0 19 rfl rfl)
theorem dJ29_indexOf_20 : decode cJ29_indexOf 20 = .ok (.getfield 7, 3) := dk_180 0 7 (dk_at dksJ29_indexOf_0 20 rfl rfl)
theorem dJ29_indexOf_23 : decode cJ29_indexOf 23 = .ok (.astore_n 2, 1) := dk_77 (dk_at dksJ29_indexOf_0 23 rfl rfl)
theorem dJ29_indexOf_24 : decode cJ29_indexOf 24 = .ok (.iconst 0, 1) := dk_3 (dk_at dksJ29_indexOf_1 0 rfl rfl)
theorem dJ29_indexOf_25 : decode cJ29_indexOf 25 = .ok (.istore_n 3, 1) := dk_62 (dk_at dksJ29_indexOf_1 1 rfl rfl)
theorem dJ29_indexOf_26 : decode cJ29_indexOf 26 = .ok (.iload_n 3, 1) := dk_29 (dk_at dksJ29_indexOf_1 2 rfl rfl)
theorem dJ29_indexOf_27 : decode cJ29_indexOf 27 = .ok (.aload_n 2, 1) := dk_44 (dk_at dksJ29_indexOf_1 3 rfl rfl)
theorem dJ29_indexOf_28 : decode cJ29_indexOf 28 = .ok (.arraylength, 1) := dk_190 (dk_at dksJ29_indexOf_1 4 rfl rfl)
theorem dJ29_indexOf_29 : decode cJ29_indexOf 29 = .ok (.if_icmp .ge 21, 3) := dk_162 0 21 (dk_at dksJ29_indexOf_1 5 rfl rfl)
theorem dJ29_indexOf_32 : decode cJ29_indexOf 32 = .ok (.aload_n 1, 1) := dk_43 (dk_at dksJ29_indexOf_1 8 rfl rfl)
theorem dJ29_indexOf_33 : decode cJ29_indexOf 33 = .ok (.aload_n 2, 1) := dk_44 (dk_at dksJ29_indexOf_1 9 rfl rfl)
theorem dJ29_indexOf_34 : decode cJ29_indexOf 34 = .ok (.iload_n 3, 1) := dk_29 (dk_at dksJ29_indexOf_1 10 rfl rfl)
theorem dJ29_indexOf_35 : decode cJ29_indexOf 35 = .ok (.aaload, 1) := dk_50 (dk_at dksJ29_indexOf_1 11 rfl rfl)
theorem dJ29_indexOf_36 : decode cJ29_indexOf 36 = .ok (.invokestatic 53, 3) := dk_184 0 53 (dk_at dksJ29_indexOf_1 12 rfl rfl)
theorem dJ29_indexOf_39 : decode cJ29_indexOf 39 = .ok (.ifCond .eq 5, 3) := dk_153 0 5 (dk_at dksJ29_indexOf_1 15 rfl rfl)
theorem dJ29_indexOf_42 : decode cJ29_indexOf 42 = .ok (.iload_n 3, 1) := dk_29 (dk_at dksJ29_indexOf_1 18 rfl rfl)
theorem dJ29_indexOf_43 : decode cJ29_indexOf 43 = .ok (.ireturn, 1) := dk_172 (dk_at dksJ29_indexOf_1 19 rfl rfl)
theorem dJ29_indexOf_44 : decode cJ29_indexOf 44 = .ok (.iinc 3 1, 3) := dk_132 3 1 (dk_at dksJ29_indexOf_1 20 rfl rfl)
theorem dJ29_indexOf_47 : decode cJ29_indexOf 47 = .ok (.goto (-21), 3) := dk_167 255 235 (dk_at dksJ29_indexOf_2 0 rfl rfl)
theorem dJ29_indexOf_50 : decode cJ29_indexOf 50 = .ok (.iconst (-1), 1) := dk_2 (dk_at dksJ29_indexOf_2 3 rfl rfl)
theorem dJ29_indexOf_51 : decode cJ29_indexOf 51 = .ok (.ireturn, 1) := dk_172 (dk_at dksJ29_indexOf_2 4 rfl rfl)
abbrev cJ29_isEmpty : ByteArray := prog_62_method_2_code
def yJ29_isEmpty : MethodName := ⟨RJ29, "isEmpty", "()Z"⟩
def dkwJ29_isEmpty_0 : List UInt8 := [42, 180, 0, 7, 190, 154, 0, 7, 4, 167, 0, 4, 3, 172]
abbrev dktJ29_isEmpty_0 : List UInt8 := dkwJ29_isEmpty_0 ++ []
theorem dksJ29_isEmpty_0 : cJ29_isEmpty.data.toList.drop 0 = dktJ29_isEmpty_0 := by decide +kernel
theorem dJ29_isEmpty_0 : decode cJ29_isEmpty 0 = .ok (.aload_n 0, 1) := dk_42 (dk_at dksJ29_isEmpty_0 0 rfl rfl)
theorem dJ29_isEmpty_1 : decode cJ29_isEmpty 1 = .ok (.getfield 7, 3) := dk_180 0 7 (dk_at dksJ29_isEmpty_0 1 rfl rfl)
theorem dJ29_isEmpty_4 : decode cJ29_isEmpty 4 = .ok (.arraylength, 1) := dk_190 (dk_at dksJ29_isEmpty_0 4 rfl rfl)
theorem dJ29_isEmpty_5 : decode cJ29_isEmpty 5 = .ok (.ifCond .ne 7, 3) := dk_154 0 7 (dk_at dksJ29_isEmpty_0 5 rfl rfl)
theorem dJ29_isEmpty_8 : decode cJ29_isEmpty 8 = .ok (.iconst 1, 1) := dk_4 (dk_at dksJ29_isEmpty_0 8 rfl rfl)
theorem dJ29_isEmpty_9 : decode cJ29_isEmpty 9 = .ok (.goto 4, 3) := dk_167 0 4 (dk_at dksJ29_isEmpty_0 9 rfl rfl)
theorem dJ29_isEmpty_12 : decode cJ29_isEmpty 12 = .ok (.iconst 0, 1) := dk_3 (dk_at dksJ29_isEmpty_0 12 rfl rfl)
theorem dJ29_isEmpty_13 : decode cJ29_isEmpty 13 = .ok (.ireturn, 1) := dk_172 (dk_at dksJ29_isEmpty_0 13 rfl rfl)
abbrev cJ29_get : ByteArray := prog_62_method_4_code
def yJ29_get : MethodName := ⟨RJ29, "get", "(I)Ljava/lang/Object;"⟩
def dkwJ29_get_0 : List UInt8 := [42, 180, 0, 7, 27, 50, 176]
abbrev dktJ29_get_0 : List UInt8 := dkwJ29_get_0 ++ []
theorem dksJ29_get_0 : cJ29_get.data.toList.drop 0 = dktJ29_get_0 := by decide +kernel
theorem dJ29_get_0 : decode cJ29_get 0 = .ok (.aload_n 0, 1) := dk_42 (dk_at dksJ29_get_0 0 rfl rfl)
theorem dJ29_get_1 : decode cJ29_get 1 = .ok (.getfield 7, 3) := dk_180 0 7 (dk_at dksJ29_get_0 1 rfl rfl)
theorem dJ29_get_4 : decode cJ29_get 4 = .ok (.iload_n 1, 1) := dk_27 (dk_at dksJ29_get_0 4 rfl rfl)
theorem dJ29_get_5 : decode cJ29_get 5 = .ok (.aaload, 1) := dk_50 (dk_at dksJ29_get_0 5 rfl rfl)
theorem dJ29_get_6 : decode cJ29_get 6 = .ok (.areturn, 1) := dk_176 (dk_at dksJ29_get_0 6 rfl rfl)

/-! decode rows: J30.java_lang_Long.lean.txt -/
set_option maxRecDepth 100000
abbrev cJ30_numberOfTrailingZeros : ByteArray := prog_30_method_49_code
def yJ30_numberOfTrailingZeros : MethodName := ⟨RJ30, "numberOfTrailingZeros", "(J)I"⟩
def dkwJ30_numberOfTrailingZeros_1 : List UInt8 := [184, 1, 55, 172]
abbrev dktJ30_numberOfTrailingZeros_1 : List UInt8 := dkwJ30_numberOfTrailingZeros_1 ++ []
def dkwJ30_numberOfTrailingZeros_0 : List UInt8 := [30, 136, 61, 28, 154, 0, 17, 16, 32, 30, 16, 32, 125, 136, 184, 1, 55, 96, 167, 0, 7, 28]
abbrev dktJ30_numberOfTrailingZeros_0 : List UInt8 := dkwJ30_numberOfTrailingZeros_0 ++ dktJ30_numberOfTrailingZeros_1
theorem dksJ30_numberOfTrailingZeros_0 : cJ30_numberOfTrailingZeros.data.toList.drop 0 = dktJ30_numberOfTrailingZeros_0 := by decide +kernel
theorem dksJ30_numberOfTrailingZeros_1 : cJ30_numberOfTrailingZeros.data.toList.drop 22 = dktJ30_numberOfTrailingZeros_1 := dk_seg dksJ30_numberOfTrailingZeros_0 22 rfl rfl
theorem dJ30_numberOfTrailingZeros_0 : decode cJ30_numberOfTrailingZeros 0 = .ok (.lload_n 0, 1) := dk_30 (dk_at dksJ30_numberOfTrailingZeros_0 0 rfl rfl)
theorem dJ30_numberOfTrailingZeros_1 : decode cJ30_numberOfTrailingZeros 1 = .ok (.l2i, 1) := dk_136 (dk_at dksJ30_numberOfTrailingZeros_0 1 rfl rfl)
theorem dJ30_numberOfTrailingZeros_2 : decode cJ30_numberOfTrailingZeros 2 = .ok (.istore_n 2, 1) := dk_61 (dk_at dksJ30_numberOfTrailingZeros_0 2 rfl rfl)
theorem dJ30_numberOfTrailingZeros_3 : decode cJ30_numberOfTrailingZeros 3 = .ok (.iload_n 2, 1) := dk_28 (dk_at dksJ30_numberOfTrailingZeros_0 3 rfl rfl)
theorem dJ30_numberOfTrailingZeros_4 : decode cJ30_numberOfTrailingZeros 4 = .ok (.ifCond .ne 17, 3) := dk_154 0 17 (dk_at dksJ30_numberOfTrailingZeros_0 4 rfl rfl)
theorem dJ30_numberOfTrailingZeros_7 : decode cJ30_numberOfTrailingZeros 7 = .ok (.bipush 32, 2) := dk_16 32 (dk_at dksJ30_numberOfTrailingZeros_0 7 rfl rfl)
theorem dJ30_numberOfTrailingZeros_9 : decode cJ30_numberOfTrailingZeros 9 = .ok (.lload_n 0, 1) := dk_30 (dk_at dksJ30_numberOfTrailingZeros_0 9 rfl rfl)
theorem dJ30_numberOfTrailingZeros_10 : decode cJ30_numberOfTrailingZeros 10 = .ok (.bipush 32, 2) := dk_16 32 (dk_at dksJ30_numberOfTrailingZeros_0 10 rfl rfl)
theorem dJ30_numberOfTrailingZeros_12 : decode cJ30_numberOfTrailingZeros 12 = .ok (.lushr, 1) := dk_125 (dk_at dksJ30_numberOfTrailingZeros_0 12 rfl rfl)
theorem dJ30_numberOfTrailingZeros_13 : decode cJ30_numberOfTrailingZeros 13 = .ok (.l2i, 1) := dk_136 (dk_at dksJ30_numberOfTrailingZeros_0 13 rfl rfl)
theorem dJ30_numberOfTrailingZeros_14 : decode cJ30_numberOfTrailingZeros 14 = .ok (.invokestatic 311, 3) := dk_184 1 55 (dk_at dksJ30_numberOfTrailingZeros_0 14 rfl rfl)
theorem dJ30_numberOfTrailingZeros_17 : decode cJ30_numberOfTrailingZeros 17 = .ok (.iadd, 1) := dk_96 (dk_at dksJ30_numberOfTrailingZeros_0 17 rfl rfl)
theorem dJ30_numberOfTrailingZeros_18 : decode cJ30_numberOfTrailingZeros 18 = .ok (.goto 7, 3) := dk_167 0 7 (dk_at dksJ30_numberOfTrailingZeros_0 18 rfl rfl)
theorem dJ30_numberOfTrailingZeros_21 : decode cJ30_numberOfTrailingZeros 21 = .ok (.iload_n 2, 1) := dk_28 (dk_at dksJ30_numberOfTrailingZeros_0 21 rfl rfl)
theorem dJ30_numberOfTrailingZeros_22 : decode cJ30_numberOfTrailingZeros 22 = .ok (.invokestatic 311, 3) := dk_184 1 55 (dk_at dksJ30_numberOfTrailingZeros_1 0 rfl rfl)
theorem dJ30_numberOfTrailingZeros_25 : decode cJ30_numberOfTrailingZeros 25 = .ok (.ireturn, 1) := dk_172 (dk_at dksJ30_numberOfTrailingZeros_1 3 rfl rfl)
abbrev cJ30_bitCount : ByteArray := prog_30_method_50_code
def yJ30_bitCount : MethodName := ⟨RJ30, "bitCount", "(J)I"⟩
def dkwJ30_bitCount_2 : List UInt8 := [30, 30, 16, 32, 125, 97, 63, 30, 136, 16, 127, 126, 172]
abbrev dktJ30_bitCount_2 : List UInt8 := dkwJ30_bitCount_2 ++ []
def dkwJ30_bitCount_1 : List UInt8 := [30, 30, 7, 125, 97, 20, 1, 62, 127, 63, 30, 30, 16, 8, 125, 97, 63, 30, 30, 16, 16, 125, 97, 63]
abbrev dktJ30_bitCount_1 : List UInt8 := dkwJ30_bitCount_1 ++ dktJ30_bitCount_2
def dkwJ30_bitCount_0 : List UInt8 := [30, 30, 4, 125, 20, 1, 58, 127, 101, 63, 30, 20, 1, 60, 127, 30, 5, 125, 20, 1, 60, 127, 97, 63]
abbrev dktJ30_bitCount_0 : List UInt8 := dkwJ30_bitCount_0 ++ dktJ30_bitCount_1
theorem dksJ30_bitCount_0 : cJ30_bitCount.data.toList.drop 0 = dktJ30_bitCount_0 := by decide +kernel
theorem dksJ30_bitCount_1 : cJ30_bitCount.data.toList.drop 24 = dktJ30_bitCount_1 := dk_seg dksJ30_bitCount_0 24 rfl rfl
theorem dksJ30_bitCount_2 : cJ30_bitCount.data.toList.drop 48 = dktJ30_bitCount_2 := dk_seg dksJ30_bitCount_1 24 rfl rfl
theorem dJ30_bitCount_0 : decode cJ30_bitCount 0 = .ok (.lload_n 0, 1) := dk_30 (dk_at dksJ30_bitCount_0 0 rfl rfl)
theorem dJ30_bitCount_1 : decode cJ30_bitCount 1 = .ok (.lload_n 0, 1) := dk_30 (dk_at dksJ30_bitCount_0 1 rfl rfl)
theorem dJ30_bitCount_2 : decode cJ30_bitCount 2 = .ok (.iconst 1, 1) := dk_4 (dk_at dksJ30_bitCount_0 2 rfl rfl)
theorem dJ30_bitCount_3 : decode cJ30_bitCount 3 = .ok (.lushr, 1) := dk_125 (dk_at dksJ30_bitCount_0 3 rfl rfl)
theorem dJ30_bitCount_4 : decode cJ30_bitCount 4 = .ok (.ldc2_w 314, 3) := dk_20 1 58 (dk_at dksJ30_bitCount_0 4 rfl rfl)
theorem dJ30_bitCount_7 : decode cJ30_bitCount 7 = .ok (.land, 1) := dk_127 (dk_at dksJ30_bitCount_0 7 rfl rfl)
theorem dJ30_bitCount_8 : decode cJ30_bitCount 8 = .ok (.lsub, 1) := dk_101 (dk_at dksJ30_bitCount_0 8 rfl rfl)
theorem dJ30_bitCount_9 : decode cJ30_bitCount 9 = .ok (.lstore_n 0, 1) := dk_63 (dk_at dksJ30_bitCount_0 9 rfl rfl)
theorem dJ30_bitCount_10 : decode cJ30_bitCount 10 = .ok (.lload_n 0, 1) := dk_30 (dk_at dksJ30_bitCount_0 10 rfl rfl)
theorem dJ30_bitCount_11 : decode cJ30_bitCount 11 = .ok (.ldc2_w 316, 3) := dk_20 1 60 (dk_at dksJ30_bitCount_0 11 rfl rfl)
theorem dJ30_bitCount_14 : decode cJ30_bitCount 14 = .ok (.land, 1) := dk_127 (dk_at dksJ30_bitCount_0 14 rfl rfl)
theorem dJ30_bitCount_15 : decode cJ30_bitCount 15 = .ok (.lload_n 0, 1) := dk_30 (dk_at dksJ30_bitCount_0 15 rfl rfl)
theorem dJ30_bitCount_16 : decode cJ30_bitCount 16 = .ok (.iconst 2, 1) := dk_5 (dk_at dksJ30_bitCount_0 16 rfl rfl)
theorem dJ30_bitCount_17 : decode cJ30_bitCount 17 = .ok (.lushr, 1) := dk_125 (dk_at dksJ30_bitCount_0 17 rfl rfl)
theorem dJ30_bitCount_18 : decode cJ30_bitCount 18 = .ok (.ldc2_w 316, 3) := dk_20 1 60 (dk_at dksJ30_bitCount_0 18 rfl rfl)
theorem dJ30_bitCount_21 : decode cJ30_bitCount 21 = .ok (.land, 1) := dk_127 (dk_at dksJ30_bitCount_0 21 rfl rfl)
theorem dJ30_bitCount_22 : decode cJ30_bitCount 22 = .ok (.ladd, 1) := dk_97 (dk_at dksJ30_bitCount_0 22 rfl rfl)
theorem dJ30_bitCount_23 : decode cJ30_bitCount 23 = .ok (.lstore_n 0, 1) := dk_63 (dk_at dksJ30_bitCount_0 23 rfl rfl)
theorem dJ30_bitCount_24 : decode cJ30_bitCount 24 = .ok (.lload_n 0, 1) := dk_30 (dk_at dksJ30_bitCount_1 0 rfl rfl)
theorem dJ30_bitCount_25 : decode cJ30_bitCount 25 = .ok (.lload_n 0, 1) := dk_30 (dk_at dksJ30_bitCount_1 1 rfl rfl)
theorem dJ30_bitCount_26 : decode cJ30_bitCount 26 = .ok (.iconst 4, 1) := dk_7 (dk_at dksJ30_bitCount_1 2 rfl rfl)
theorem dJ30_bitCount_27 : decode cJ30_bitCount 27 = .ok (.lushr, 1) := dk_125 (dk_at dksJ30_bitCount_1 3 rfl rfl)
theorem dJ30_bitCount_28 : decode cJ30_bitCount 28 = .ok (.ladd, 1) := dk_97 (dk_at dksJ30_bitCount_1 4 rfl rfl)
theorem dJ30_bitCount_29 : decode cJ30_bitCount 29 = .ok (.ldc2_w 318, 3) := dk_20 1 62 (dk_at dksJ30_bitCount_1 5 rfl rfl)
theorem dJ30_bitCount_32 : decode cJ30_bitCount 32 = .ok (.land, 1) := dk_127 (dk_at dksJ30_bitCount_1 8 rfl rfl)
theorem dJ30_bitCount_33 : decode cJ30_bitCount 33 = .ok (.lstore_n 0, 1) := dk_63 (dk_at dksJ30_bitCount_1 9 rfl rfl)
theorem dJ30_bitCount_34 : decode cJ30_bitCount 34 = .ok (.lload_n 0, 1) := dk_30 (dk_at dksJ30_bitCount_1 10 rfl rfl)
theorem dJ30_bitCount_35 : decode cJ30_bitCount 35 = .ok (.lload_n 0, 1) := dk_30 (dk_at dksJ30_bitCount_1 11 rfl rfl)
theorem dJ30_bitCount_36 : decode cJ30_bitCount 36 = .ok (.bipush 8, 2) := dk_16 8 (dk_at dksJ30_bitCount_1 12 rfl rfl)
theorem dJ30_bitCount_38 : decode cJ30_bitCount 38 = .ok (.lushr, 1) := dk_125 (dk_at dksJ30_bitCount_1 14 rfl rfl)
theorem dJ30_bitCount_39 : decode cJ30_bitCount 39 = .ok (.ladd, 1) := dk_97 (dk_at dksJ30_bitCount_1 15 rfl rfl)
theorem dJ30_bitCount_40 : decode cJ30_bitCount 40 = .ok (.lstore_n 0, 1) := dk_63 (dk_at dksJ30_bitCount_1 16 rfl rfl)
theorem dJ30_bitCount_41 : decode cJ30_bitCount 41 = .ok (.lload_n 0, 1) := dk_30 (dk_at dksJ30_bitCount_1 17 rfl rfl)
theorem dJ30_bitCount_42 : decode cJ30_bitCount 42 = .ok (.lload_n 0, 1) := dk_30 (dk_at dksJ30_bitCount_1 18 rfl rfl)
theorem dJ30_bitCount_43 : decode cJ30_bitCount 43 = .ok (.bipush 16, 2) := dk_16 16 (dk_at dksJ30_bitCount_1 19 rfl rfl)
theorem dJ30_bitCount_45 : decode cJ30_bitCount 45 = .ok (.lushr, 1) := dk_125 (dk_at dksJ30_bitCount_1 21 rfl rfl)
theorem dJ30_bitCount_46 : decode cJ30_bitCount 46 = .ok (.ladd, 1) := dk_97 (dk_at dksJ30_bitCount_1 22 rfl rfl)
theorem dJ30_bitCount_47 : decode cJ30_bitCount 47 = .ok (.lstore_n 0, 1) := dk_63 (dk_at dksJ30_bitCount_1 23 rfl rfl)
theorem dJ30_bitCount_48 : decode cJ30_bitCount 48 = .ok (.lload_n 0, 1) := dk_30 (dk_at dksJ30_bitCount_2 0 rfl rfl)
theorem dJ30_bitCount_49 : decode cJ30_bitCount 49 = .ok (.lload_n 0, 1) := dk_30 (dk_at dksJ30_bitCount_2 1 rfl rfl)
theorem dJ30_bitCount_50 : decode cJ30_bitCount 50 = .ok (.bipush 32, 2) := dk_16 32 (dk_at dksJ30_bitCount_2 2 rfl rfl)
theorem dJ30_bitCount_52 : decode cJ30_bitCount 52 = .ok (.lushr, 1) := dk_125 (dk_at dksJ30_bitCount_2 4 rfl rfl)
theorem dJ30_bitCount_53 : decode cJ30_bitCount 53 = .ok (.ladd, 1) := dk_97 (dk_at dksJ30_bitCount_2 5 rfl rfl)
theorem dJ30_bitCount_54 : decode cJ30_bitCount 54 = .ok (.lstore_n 0, 1) := dk_63 (dk_at dksJ30_bitCount_2 6 rfl rfl)
theorem dJ30_bitCount_55 : decode cJ30_bitCount 55 = .ok (.lload_n 0, 1) := dk_30 (dk_at dksJ30_bitCount_2 7 rfl rfl)
theorem dJ30_bitCount_56 : decode cJ30_bitCount 56 = .ok (.l2i, 1) := dk_136 (dk_at dksJ30_bitCount_2 8 rfl rfl)
theorem dJ30_bitCount_57 : decode cJ30_bitCount 57 = .ok (.bipush 127, 2) := dk_16 127 (dk_at dksJ30_bitCount_2 9 rfl rfl)
theorem dJ30_bitCount_59 : decode cJ30_bitCount 59 = .ok (.iand, 1) := dk_126 (dk_at dksJ30_bitCount_2 11 rfl rfl)
theorem dJ30_bitCount_60 : decode cJ30_bitCount 60 = .ok (.ireturn, 1) := dk_172 (dk_at dksJ30_bitCount_2 12 rfl rfl)
abbrev cJ30_stringSize : ByteArray := prog_30_method_15_code
def yJ30_stringSize : MethodName := ⟨RJ30, "stringSize", "(J)I"⟩
def dkwJ30_stringSize_2 : List UInt8 := [167, 255, 229, 16, 19, 28, 96, 172]
abbrev dktJ30_stringSize_2 : List UInt8 := dkwJ30_stringSize_2 ++ []
def dkwJ30_stringSize_1 : List UInt8 := [162, 0, 26, 30, 33, 148, 158, 0, 8, 21, 5, 28, 96, 172, 20, 0, 53, 33, 105, 66, 132, 5, 1]
abbrev dktJ30_stringSize_1 : List UInt8 := dkwJ30_stringSize_1 ++ dktJ30_stringSize_2
def dkwJ30_stringSize_0 : List UInt8 := [4, 61, 30, 9, 148, 155, 0, 8, 3, 61, 30, 117, 63, 20, 0, 140, 66, 4, 54, 5, 21, 5, 16, 19]
abbrev dktJ30_stringSize_0 : List UInt8 := dkwJ30_stringSize_0 ++ dktJ30_stringSize_1
theorem dksJ30_stringSize_0 : cJ30_stringSize.data.toList.drop 0 = dktJ30_stringSize_0 := by decide +kernel
theorem dksJ30_stringSize_1 : cJ30_stringSize.data.toList.drop 24 = dktJ30_stringSize_1 := dk_seg dksJ30_stringSize_0 24 rfl rfl
theorem dksJ30_stringSize_2 : cJ30_stringSize.data.toList.drop 47 = dktJ30_stringSize_2 := dk_seg dksJ30_stringSize_1 23 rfl rfl
theorem dJ30_stringSize_0 : decode cJ30_stringSize 0 = .ok (.iconst 1, 1) := dk_4 (dk_at dksJ30_stringSize_0 0 rfl rfl)
theorem dJ30_stringSize_1 : decode cJ30_stringSize 1 = .ok (.istore_n 2, 1) := dk_61 (dk_at dksJ30_stringSize_0 1 rfl rfl)
theorem dJ30_stringSize_2 : decode cJ30_stringSize 2 = .ok (.lload_n 0, 1) := dk_30 (dk_at dksJ30_stringSize_0 2 rfl rfl)
theorem dJ30_stringSize_3 : decode cJ30_stringSize 3 = .ok (.lconst 0, 1) := dk_9 (dk_at dksJ30_stringSize_0 3 rfl rfl)
theorem dJ30_stringSize_4 : decode cJ30_stringSize 4 = .ok (.lcmp, 1) := dk_148 (dk_at dksJ30_stringSize_0 4 rfl rfl)
theorem dJ30_stringSize_5 : decode cJ30_stringSize 5 = .ok (.ifCond .lt 8, 3) := dk_155 0 8 (dk_at dksJ30_stringSize_0 5 rfl rfl)
theorem dJ30_stringSize_8 : decode cJ30_stringSize 8 = .ok (.iconst 0, 1) := dk_3 (dk_at dksJ30_stringSize_0 8 rfl rfl)
theorem dJ30_stringSize_9 : decode cJ30_stringSize 9 = .ok (.istore_n 2, 1) := dk_61 (dk_at dksJ30_stringSize_0 9 rfl rfl)
theorem dJ30_stringSize_10 : decode cJ30_stringSize 10 = .ok (.lload_n 0, 1) := dk_30 (dk_at dksJ30_stringSize_0 10 rfl rfl)
theorem dJ30_stringSize_11 : decode cJ30_stringSize 11 = .ok (.lneg, 1) := dk_117 (dk_at dksJ30_stringSize_0 11 rfl rfl)
theorem dJ30_stringSize_12 : decode cJ30_stringSize 12 = .ok (.lstore_n 0, 1) := dk_63 (dk_at dksJ30_stringSize_0 12 rfl rfl)
theorem dJ30_stringSize_13 : decode cJ30_stringSize 13 = .ok (.ldc2_w 140, 3) := dk_20 0 140 (dk_at dksJ30_stringSize_0 13 rfl rfl)
theorem dJ30_stringSize_16 : decode cJ30_stringSize 16 = .ok (.lstore_n 3, 1) := dk_66 (dk_at dksJ30_stringSize_0 16 rfl rfl)
theorem dJ30_stringSize_17 : decode cJ30_stringSize 17 = .ok (.iconst 1, 1) := dk_4 (dk_at dksJ30_stringSize_0 17 rfl rfl)
theorem dJ30_stringSize_18 : decode cJ30_stringSize 18 = .ok (.istore 5, 2) := dk_54 5 (dk_at dksJ30_stringSize_0 18 rfl rfl)
theorem dJ30_stringSize_20 : decode cJ30_stringSize 20 = .ok (.iload 5, 2) := dk_21 5 (dk_at dksJ30_stringSize_0 20 rfl rfl)
theorem dJ30_stringSize_22 : decode cJ30_stringSize 22 = .ok (.bipush 19, 2) := dk_16 19 (dk_at dksJ30_stringSize_0 22 rfl rfl)
theorem dJ30_stringSize_24 : decode cJ30_stringSize 24 = .ok (.if_icmp .ge 26, 3) := dk_162 0 26 (dk_at dksJ30_stringSize_1 0 rfl rfl)
theorem dJ30_stringSize_27 : decode cJ30_stringSize 27 = .ok (.lload_n 0, 1) := dk_30 (dk_at dksJ30_stringSize_1 3 rfl rfl)
theorem dJ30_stringSize_28 : decode cJ30_stringSize 28 = .ok (.lload_n 3, 1) := dk_33 (dk_at dksJ30_stringSize_1 4 rfl rfl)
theorem dJ30_stringSize_29 : decode cJ30_stringSize 29 = .ok (.lcmp, 1) := dk_148 (dk_at dksJ30_stringSize_1 5 rfl rfl)
theorem dJ30_stringSize_30 : decode cJ30_stringSize 30 = .ok (.ifCond .le 8, 3) := dk_158 0 8 (dk_at dksJ30_stringSize_1 6 rfl rfl)
theorem dJ30_stringSize_33 : decode cJ30_stringSize 33 = .ok (.iload 5, 2) := dk_21 5 (dk_at dksJ30_stringSize_1 9 rfl rfl)
theorem dJ30_stringSize_35 : decode cJ30_stringSize 35 = .ok (.iload_n 2, 1) := dk_28 (dk_at dksJ30_stringSize_1 11 rfl rfl)
theorem dJ30_stringSize_36 : decode cJ30_stringSize 36 = .ok (.iadd, 1) := dk_96 (dk_at dksJ30_stringSize_1 12 rfl rfl)
theorem dJ30_stringSize_37 : decode cJ30_stringSize 37 = .ok (.ireturn, 1) := dk_172 (dk_at dksJ30_stringSize_1 13 rfl rfl)
theorem dJ30_stringSize_38 : decode cJ30_stringSize 38 = .ok (.ldc2_w 53, 3) := dk_20 0 53 (dk_at dksJ30_stringSize_1 14 rfl rfl)
theorem dJ30_stringSize_41 : decode cJ30_stringSize 41 = .ok (.lload_n 3, 1) := dk_33 (dk_at dksJ30_stringSize_1 17 rfl rfl)
theorem dJ30_stringSize_42 : decode cJ30_stringSize 42 = .ok (.lmul, 1) := dk_105 (dk_at dksJ30_stringSize_1 18 rfl rfl)
theorem dJ30_stringSize_43 : decode cJ30_stringSize 43 = .ok (.lstore_n 3, 1) := dk_66 (dk_at dksJ30_stringSize_1 19 rfl rfl)
theorem dJ30_stringSize_44 : decode cJ30_stringSize 44 = .ok (.iinc 5 1, 3) := dk_132 5 1 (dk_at dksJ30_stringSize_1 20 rfl rfl)
theorem dJ30_stringSize_47 : decode cJ30_stringSize 47 = .ok (.goto (-27), 3) := dk_167 255 229 (dk_at dksJ30_stringSize_2 0 rfl rfl)
theorem dJ30_stringSize_50 : decode cJ30_stringSize 50 = .ok (.bipush 19, 2) := dk_16 19 (dk_at dksJ30_stringSize_2 3 rfl rfl)
theorem dJ30_stringSize_52 : decode cJ30_stringSize 52 = .ok (.iload_n 2, 1) := dk_28 (dk_at dksJ30_stringSize_2 5 rfl rfl)
theorem dJ30_stringSize_53 : decode cJ30_stringSize 53 = .ok (.iadd, 1) := dk_96 (dk_at dksJ30_stringSize_2 6 rfl rfl)
theorem dJ30_stringSize_54 : decode cJ30_stringSize 54 = .ok (.ireturn, 1) := dk_172 (dk_at dksJ30_stringSize_2 7 rfl rfl)
abbrev cJ30_getChars : ByteArray := prog_30_method_14_code
def yJ30_getChars : MethodName := ⟨RJ30, "getChars", "(JI[B)I"⟩
def dkwJ30_getChars_8 : List UInt8 := [21, 7, 16, 45, 84, 21, 7, 172]
abbrev dktJ30_getChars_8 : List UInt8 := dkwJ30_getChars_8 ++ []
def dkwJ30_getChars_7 : List UInt8 := [45, 132, 7, 255, 21, 7, 178, 0, 137, 21, 10, 116, 51, 84, 21, 8, 153, 0, 12, 45, 132, 7, 255]
abbrev dktJ30_getChars_7 : List UInt8 := dkwJ30_getChars_7 ++ dktJ30_getChars_8
def dkwJ30_getChars_6 : List UInt8 := [167, 255, 202, 45, 132, 7, 255, 21, 7, 178, 0, 133, 21, 10, 116, 51, 84, 21, 10, 16, 247, 162, 0, 17]
abbrev dktJ30_getChars_6 : List UInt8 := dkwJ30_getChars_6 ++ dktJ30_getChars_7
def dkwJ30_getChars_5 : List UInt8 := [21, 7, 178, 0, 133, 21, 6, 51, 84, 45, 132, 7, 255, 21, 7, 178, 0, 137, 21, 6, 51, 84]
abbrev dktJ30_getChars_5 : List UInt8 := dkwJ30_getChars_5 ++ dktJ30_getChars_6
def dkwJ30_getChars_4 : List UInt8 := [16, 100, 108, 54, 9, 21, 9, 16, 100, 104, 21, 10, 100, 54, 6, 21, 9, 54, 10, 45, 132, 7, 255]
abbrev dktJ30_getChars_4 : List UInt8 := dkwJ30_getChars_4 ++ dktJ30_getChars_5
def dkwJ30_getChars_3 : List UInt8 := [178, 0, 137, 21, 6, 51, 84, 167, 255, 201, 30, 136, 54, 10, 21, 10, 16, 156, 163, 0, 53, 21, 10]
abbrev dktJ30_getChars_3 : List UInt8 := dkwJ30_getChars_3 ++ dktJ30_getChars_4
def dkwJ30_getChars_2 : List UInt8 := [54, 6, 22, 4, 63, 45, 132, 7, 255, 21, 7, 178, 0, 133, 21, 6, 51, 84, 45, 132, 7, 255, 21, 7]
abbrev dktJ30_getChars_2 : List UInt8 := dkwJ30_getChars_2 ++ dktJ30_getChars_3
def dkwJ30_getChars_1 : List UInt8 := [30, 20, 0, 129, 148, 157, 0, 53, 30, 20, 0, 131, 109, 55, 4, 22, 4, 20, 0, 131, 105, 30, 101, 136]
abbrev dktJ30_getChars_1 : List UInt8 := dkwJ30_getChars_1 ++ dktJ30_getChars_2
def dkwJ30_getChars_0 : List UInt8 := [28, 54, 7, 30, 9, 148, 156, 0, 7, 4, 167, 0, 4, 3, 54, 8, 21, 8, 154, 0, 6, 30, 117, 63]
abbrev dktJ30_getChars_0 : List UInt8 := dkwJ30_getChars_0 ++ dktJ30_getChars_1
theorem dksJ30_getChars_0 : cJ30_getChars.data.toList.drop 0 = dktJ30_getChars_0 := by decide +kernel
theorem dksJ30_getChars_1 : cJ30_getChars.data.toList.drop 24 = dktJ30_getChars_1 := dk_seg dksJ30_getChars_0 24 rfl rfl
theorem dksJ30_getChars_2 : cJ30_getChars.data.toList.drop 48 = dktJ30_getChars_2 := dk_seg dksJ30_getChars_1 24 rfl rfl
theorem dksJ30_getChars_3 : cJ30_getChars.data.toList.drop 72 = dktJ30_getChars_3 := dk_seg dksJ30_getChars_2 24 rfl rfl
theorem dksJ30_getChars_4 : cJ30_getChars.data.toList.drop 95 = dktJ30_getChars_4 := dk_seg dksJ30_getChars_3 23 rfl rfl
theorem dksJ30_getChars_5 : cJ30_getChars.data.toList.drop 118 = dktJ30_getChars_5 := dk_seg dksJ30_getChars_4 23 rfl rfl
theorem dksJ30_getChars_6 : cJ30_getChars.data.toList.drop 140 = dktJ30_getChars_6 := dk_seg dksJ30_getChars_5 22 rfl rfl
theorem dksJ30_getChars_7 : cJ30_getChars.data.toList.drop 164 = dktJ30_getChars_7 := dk_seg dksJ30_getChars_6 24 rfl rfl
theorem dksJ30_getChars_8 : cJ30_getChars.data.toList.drop 187 = dktJ30_getChars_8 := dk_seg dksJ30_getChars_7 23 rfl rfl
theorem dJ30_getChars_0 : decode cJ30_getChars 0 = .ok (.iload_n 2, 1) := dk_28 (dk_at dksJ30_getChars_0 0 rfl rfl)
theorem dJ30_getChars_1 : decode cJ30_getChars 1 = .ok (.istore 7, 2) := dk_54 7 (dk_at dksJ30_getChars_0 1 rfl rfl)
theorem dJ30_getChars_3 : decode cJ30_getChars 3 = .ok (.lload_n 0, 1) := dk_30 (dk_at dksJ30_getChars_0 3 rfl rfl)
theorem dJ30_getChars_4 : decode cJ30_getChars 4 = .ok (.lconst 0, 1) := dk_9 (dk_at dksJ30_getChars_0 4 rfl rfl)
theorem dJ30_getChars_5 : decode cJ30_getChars 5 = .ok (.lcmp, 1) := dk_148 (dk_at dksJ30_getChars_0 5 rfl rfl)
theorem dJ30_getChars_6 : decode cJ30_getChars 6 = .ok (.ifCond .ge 7, 3) := dk_156 0 7 (dk_at dksJ30_getChars_0 6 rfl rfl)
theorem dJ30_getChars_9 : decode cJ30_getChars 9 = .ok (.iconst 1, 1) := dk_4 (dk_at dksJ30_getChars_0 9 rfl rfl)
theorem dJ30_getChars_10 : decode cJ30_getChars 10 = .ok (.goto 4, 3) := dk_167 0 4 (dk_at dksJ30_getChars_0 10 rfl rfl)
theorem dJ30_getChars_13 : decode cJ30_getChars 13 = .ok (.iconst 0, 1) := dk_3 (dk_at dksJ30_getChars_0 13 rfl rfl)
theorem dJ30_getChars_14 : decode cJ30_getChars 14 = .ok (.istore 8, 2) := dk_54 8 (dk_at dksJ30_getChars_0 14 rfl rfl)
theorem dJ30_getChars_16 : decode cJ30_getChars 16 = .ok (.iload 8, 2) := dk_21 8 (dk_at dksJ30_getChars_0 16 rfl rfl)
theorem dJ30_getChars_18 : decode cJ30_getChars 18 = .ok (.ifCond .ne 6, 3) := dk_154 0 6 (dk_at dksJ30_getChars_0 18 rfl rfl)
theorem dJ30_getChars_21 : decode cJ30_getChars 21 = .ok (.lload_n 0, 1) := dk_30 (dk_at dksJ30_getChars_0 21 rfl rfl)
theorem dJ30_getChars_22 : decode cJ30_getChars 22 = .ok (.lneg, 1) := dk_117 (dk_at dksJ30_getChars_0 22 rfl rfl)
theorem dJ30_getChars_23 : decode cJ30_getChars 23 = .ok (.lstore_n 0, 1) := dk_63 (dk_at dksJ30_getChars_0 23 rfl rfl)
theorem dJ30_getChars_24 : decode cJ30_getChars 24 = .ok (.lload_n 0, 1) := dk_30 (dk_at dksJ30_getChars_1 0 rfl rfl)
theorem dJ30_getChars_25 : decode cJ30_getChars 25 = .ok (.ldc2_w 129, 3) := dk_20 0 129 (dk_at dksJ30_getChars_1 1 rfl rfl)
theorem dJ30_getChars_28 : decode cJ30_getChars 28 = .ok (.lcmp, 1) := dk_148 (dk_at dksJ30_getChars_1 4 rfl rfl)
theorem dJ30_getChars_29 : decode cJ30_getChars 29 = .ok (.ifCond .gt 53, 3) := dk_157 0 53 (dk_at dksJ30_getChars_1 5 rfl rfl)
theorem dJ30_getChars_32 : decode cJ30_getChars 32 = .ok (.lload_n 0, 1) := dk_30 (dk_at dksJ30_getChars_1 8 rfl rfl)
theorem dJ30_getChars_33 : decode cJ30_getChars 33 = .ok (.ldc2_w 131, 3) := dk_20 0 131 (dk_at dksJ30_getChars_1 9 rfl rfl)
theorem dJ30_getChars_36 : decode cJ30_getChars 36 = .ok (.ldiv, 1) := dk_109 (dk_at dksJ30_getChars_1 12 rfl rfl)
theorem dJ30_getChars_37 : decode cJ30_getChars 37 = .ok (.lstore 4, 2) := dk_55 4 (dk_at dksJ30_getChars_1 13 rfl rfl)
theorem dJ30_getChars_39 : decode cJ30_getChars 39 = .ok (.lload 4, 2) := dk_22 4 (dk_at dksJ30_getChars_1 15 rfl rfl)
theorem dJ30_getChars_41 : decode cJ30_getChars 41 = .ok (.ldc2_w 131, 3) := dk_20 0 131 (dk_at dksJ30_getChars_1 17 rfl rfl)
theorem dJ30_getChars_44 : decode cJ30_getChars 44 = .ok (.lmul, 1) := dk_105 (dk_at dksJ30_getChars_1 20 rfl rfl)
theorem dJ30_getChars_45 : decode cJ30_getChars 45 = .ok (.lload_n 0, 1) := dk_30 (dk_at dksJ30_getChars_1 21 rfl rfl)
theorem dJ30_getChars_46 : decode cJ30_getChars 46 = .ok (.lsub, 1) := dk_101 (dk_at dksJ30_getChars_1 22 rfl rfl)
theorem dJ30_getChars_47 : decode cJ30_getChars 47 = .ok (.l2i, 1) := dk_136 (dk_at dksJ30_getChars_1 23 rfl rfl)
theorem dJ30_getChars_48 : decode cJ30_getChars 48 = .ok (.istore 6, 2) := dk_54 6 (dk_at dksJ30_getChars_2 0 rfl rfl)
theorem dJ30_getChars_50 : decode cJ30_getChars 50 = .ok (.lload 4, 2) := dk_22 4 (dk_at dksJ30_getChars_2 2 rfl rfl)
theorem dJ30_getChars_52 : decode cJ30_getChars 52 = .ok (.lstore_n 0, 1) := dk_63 (dk_at dksJ30_getChars_2 4 rfl rfl)
theorem dJ30_getChars_53 : decode cJ30_getChars 53 = .ok (.aload_n 3, 1) := dk_45 (dk_at dksJ30_getChars_2 5 rfl rfl)
theorem dJ30_getChars_54 : decode cJ30_getChars 54 = .ok (.iinc 7 (-1), 3) := dk_132 7 255 (dk_at dksJ30_getChars_2 6 rfl rfl)
theorem dJ30_getChars_57 : decode cJ30_getChars 57 = .ok (.iload 7, 2) := dk_21 7 (dk_at dksJ30_getChars_2 9 rfl rfl)
theorem dJ30_getChars_59 : decode cJ30_getChars 59 = .ok (.getstatic 133, 3) := dk_178 0 133 (dk_at dksJ30_getChars_2 11 rfl rfl)
theorem dJ30_getChars_62 : decode cJ30_getChars 62 = .ok (.iload 6, 2) := dk_21 6 (dk_at dksJ30_getChars_2 14 rfl rfl)
theorem dJ30_getChars_64 : decode cJ30_getChars 64 = .ok (.baload, 1) := dk_51 (dk_at dksJ30_getChars_2 16 rfl rfl)
theorem dJ30_getChars_65 : decode cJ30_getChars 65 = .ok (.bastore, 1) := dk_84 (dk_at dksJ30_getChars_2 17 rfl rfl)
theorem dJ30_getChars_66 : decode cJ30_getChars 66 = .ok (.aload_n 3, 1) := dk_45 (dk_at dksJ30_getChars_2 18 rfl rfl)
theorem dJ30_getChars_67 : decode cJ30_getChars 67 = .ok (.iinc 7 (-1), 3) := dk_132 7 255 (dk_at dksJ30_getChars_2 19 rfl rfl)
theorem dJ30_getChars_70 : decode cJ30_getChars 70 = .ok (.iload 7, 2) := dk_21 7 (dk_at dksJ30_getChars_2 22 rfl rfl)
theorem dJ30_getChars_72 : decode cJ30_getChars 72 = .ok (.getstatic 137, 3) := dk_178 0 137 (dk_at dksJ30_getChars_3 0 rfl rfl)
theorem dJ30_getChars_75 : decode cJ30_getChars 75 = .ok (.iload 6, 2) := dk_21 6 (dk_at dksJ30_getChars_3 3 rfl rfl)
theorem dJ30_getChars_77 : decode cJ30_getChars 77 = .ok (.baload, 1) := dk_51 (dk_at dksJ30_getChars_3 5 rfl rfl)
theorem dJ30_getChars_78 : decode cJ30_getChars 78 = .ok (.bastore, 1) := dk_84 (dk_at dksJ30_getChars_3 6 rfl rfl)
theorem dJ30_getChars_79 : decode cJ30_getChars 79 = .ok (.goto (-55), 3) := dk_167 255 201 (dk_at dksJ30_getChars_3 7 rfl rfl)
theorem dJ30_getChars_82 : decode cJ30_getChars 82 = .ok (.lload_n 0, 1) := dk_30 (dk_at dksJ30_getChars_3 10 rfl rfl)
theorem dJ30_getChars_83 : decode cJ30_getChars 83 = .ok (.l2i, 1) := dk_136 (dk_at dksJ30_getChars_3 11 rfl rfl)
theorem dJ30_getChars_84 : decode cJ30_getChars 84 = .ok (.istore 10, 2) := dk_54 10 (dk_at dksJ30_getChars_3 12 rfl rfl)
theorem dJ30_getChars_86 : decode cJ30_getChars 86 = .ok (.iload 10, 2) := dk_21 10 (dk_at dksJ30_getChars_3 14 rfl rfl)
theorem dJ30_getChars_88 : decode cJ30_getChars 88 = .ok (.bipush (-100), 2) := dk_16 156 (dk_at dksJ30_getChars_3 16 rfl rfl)
theorem dJ30_getChars_90 : decode cJ30_getChars 90 = .ok (.if_icmp .gt 53, 3) := dk_163 0 53 (dk_at dksJ30_getChars_3 18 rfl rfl)
theorem dJ30_getChars_93 : decode cJ30_getChars 93 = .ok (.iload 10, 2) := dk_21 10 (dk_at dksJ30_getChars_3 21 rfl rfl)
theorem dJ30_getChars_95 : decode cJ30_getChars 95 = .ok (.bipush 100, 2) := dk_16 100 (dk_at dksJ30_getChars_4 0 rfl rfl)
theorem dJ30_getChars_97 : decode cJ30_getChars 97 = .ok (.idiv, 1) := dk_108 (dk_at dksJ30_getChars_4 2 rfl rfl)
theorem dJ30_getChars_98 : decode cJ30_getChars 98 = .ok (.istore 9, 2) := dk_54 9 (dk_at dksJ30_getChars_4 3 rfl rfl)
theorem dJ30_getChars_100 : decode cJ30_getChars 100 = .ok (.iload 9, 2) := dk_21 9 (dk_at dksJ30_getChars_4 5 rfl rfl)
theorem dJ30_getChars_102 : decode cJ30_getChars 102 = .ok (.bipush 100, 2) := dk_16 100 (dk_at dksJ30_getChars_4 7 rfl rfl)
theorem dJ30_getChars_104 : decode cJ30_getChars 104 = .ok (.imul, 1) := dk_104 (dk_at dksJ30_getChars_4 9 rfl rfl)
theorem dJ30_getChars_105 : decode cJ30_getChars 105 = .ok (.iload 10, 2) := dk_21 10 (dk_at dksJ30_getChars_4 10 rfl rfl)
theorem dJ30_getChars_107 : decode cJ30_getChars 107 = .ok (.isub, 1) := dk_100 (dk_at dksJ30_getChars_4 12 rfl rfl)
theorem dJ30_getChars_108 : decode cJ30_getChars 108 = .ok (.istore 6, 2) := dk_54 6 (dk_at dksJ30_getChars_4 13 rfl rfl)
theorem dJ30_getChars_110 : decode cJ30_getChars 110 = .ok (.iload 9, 2) := dk_21 9 (dk_at dksJ30_getChars_4 15 rfl rfl)
theorem dJ30_getChars_112 : decode cJ30_getChars 112 = .ok (.istore 10, 2) := dk_54 10 (dk_at dksJ30_getChars_4 17 rfl rfl)
theorem dJ30_getChars_114 : decode cJ30_getChars 114 = .ok (.aload_n 3, 1) := dk_45 (dk_at dksJ30_getChars_4 19 rfl rfl)
theorem dJ30_getChars_115 : decode cJ30_getChars 115 = .ok (.iinc 7 (-1), 3) := dk_132 7 255 (dk_at dksJ30_getChars_4 20 rfl rfl)
theorem dJ30_getChars_118 : decode cJ30_getChars 118 = .ok (.iload 7, 2) := dk_21 7 (dk_at dksJ30_getChars_5 0 rfl rfl)
theorem dJ30_getChars_120 : decode cJ30_getChars 120 = .ok (.getstatic 133, 3) := dk_178 0 133 (dk_at dksJ30_getChars_5 2 rfl rfl)
theorem dJ30_getChars_123 : decode cJ30_getChars 123 = .ok (.iload 6, 2) := dk_21 6 (dk_at dksJ30_getChars_5 5 rfl rfl)
theorem dJ30_getChars_125 : decode cJ30_getChars 125 = .ok (.baload, 1) := dk_51 (dk_at dksJ30_getChars_5 7 rfl rfl)
theorem dJ30_getChars_126 : decode cJ30_getChars 126 = .ok (.bastore, 1) := dk_84 (dk_at dksJ30_getChars_5 8 rfl rfl)
theorem dJ30_getChars_127 : decode cJ30_getChars 127 = .ok (.aload_n 3, 1) := dk_45 (dk_at dksJ30_getChars_5 9 rfl rfl)
theorem dJ30_getChars_128 : decode cJ30_getChars 128 = .ok (.iinc 7 (-1), 3) := dk_132 7 255 (dk_at dksJ30_getChars_5 10 rfl rfl)
theorem dJ30_getChars_131 : decode cJ30_getChars 131 = .ok (.iload 7, 2) := dk_21 7 (dk_at dksJ30_getChars_5 13 rfl rfl)
theorem dJ30_getChars_133 : decode cJ30_getChars 133 = .ok (.getstatic 137, 3) := dk_178 0 137 (dk_at dksJ30_getChars_5 15 rfl rfl)
theorem dJ30_getChars_136 : decode cJ30_getChars 136 = .ok (.iload 6, 2) := dk_21 6 (dk_at dksJ30_getChars_5 18 rfl rfl)
theorem dJ30_getChars_138 : decode cJ30_getChars 138 = .ok (.baload, 1) := dk_51 (dk_at dksJ30_getChars_5 20 rfl rfl)
theorem dJ30_getChars_139 : decode cJ30_getChars 139 = .ok (.bastore, 1) := dk_84 (dk_at dksJ30_getChars_5 21 rfl rfl)
theorem dJ30_getChars_140 : decode cJ30_getChars 140 = .ok (.goto (-54), 3) := dk_167 255 202 (dk_at dksJ30_getChars_6 0 rfl rfl)
theorem dJ30_getChars_143 : decode cJ30_getChars 143 = .ok (.aload_n 3, 1) := dk_45 (dk_at dksJ30_getChars_6 3 rfl rfl)
theorem dJ30_getChars_144 : decode cJ30_getChars 144 = .ok (.iinc 7 (-1), 3) := dk_132 7 255 (dk_at dksJ30_getChars_6 4 rfl rfl)
theorem dJ30_getChars_147 : decode cJ30_getChars 147 = .ok (.iload 7, 2) := dk_21 7 (dk_at dksJ30_getChars_6 7 rfl rfl)
theorem dJ30_getChars_149 : decode cJ30_getChars 149 = .ok (.getstatic 133, 3) := dk_178 0 133 (dk_at dksJ30_getChars_6 9 rfl rfl)
theorem dJ30_getChars_152 : decode cJ30_getChars 152 = .ok (.iload 10, 2) := dk_21 10 (dk_at dksJ30_getChars_6 12 rfl rfl)
theorem dJ30_getChars_154 : decode cJ30_getChars 154 = .ok (.ineg, 1) := dk_116 (dk_at dksJ30_getChars_6 14 rfl rfl)
theorem dJ30_getChars_155 : decode cJ30_getChars 155 = .ok (.baload, 1) := dk_51 (dk_at dksJ30_getChars_6 15 rfl rfl)
theorem dJ30_getChars_156 : decode cJ30_getChars 156 = .ok (.bastore, 1) := dk_84 (dk_at dksJ30_getChars_6 16 rfl rfl)
theorem dJ30_getChars_157 : decode cJ30_getChars 157 = .ok (.iload 10, 2) := dk_21 10 (dk_at dksJ30_getChars_6 17 rfl rfl)
theorem dJ30_getChars_159 : decode cJ30_getChars 159 = .ok (.bipush (-9), 2) := dk_16 247 (dk_at dksJ30_getChars_6 19 rfl rfl)
theorem dJ30_getChars_161 : decode cJ30_getChars 161 = .ok (.if_icmp .ge 17, 3) := dk_162 0 17 (dk_at dksJ30_getChars_6 21 rfl rfl)
theorem dJ30_getChars_164 : decode cJ30_getChars 164 = .ok (.aload_n 3, 1) := dk_45 (dk_at dksJ30_getChars_7 0 rfl rfl)
theorem dJ30_getChars_165 : decode cJ30_getChars 165 = .ok (.iinc 7 (-1), 3) := dk_132 7 255 (dk_at dksJ30_getChars_7 1 rfl rfl)
theorem dJ30_getChars_168 : decode cJ30_getChars 168 = .ok (.iload 7, 2) := dk_21 7 (dk_at dksJ30_getChars_7 4 rfl rfl)
theorem dJ30_getChars_170 : decode cJ30_getChars 170 = .ok (.getstatic 137, 3) := dk_178 0 137 (dk_at dksJ30_getChars_7 6 rfl rfl)
theorem dJ30_getChars_173 : decode cJ30_getChars 173 = .ok (.iload 10, 2) := dk_21 10 (dk_at dksJ30_getChars_7 9 rfl rfl)
theorem dJ30_getChars_175 : decode cJ30_getChars 175 = .ok (.ineg, 1) := dk_116 (dk_at dksJ30_getChars_7 11 rfl rfl)
theorem dJ30_getChars_176 : decode cJ30_getChars 176 = .ok (.baload, 1) := dk_51 (dk_at dksJ30_getChars_7 12 rfl rfl)
theorem dJ30_getChars_177 : decode cJ30_getChars 177 = .ok (.bastore, 1) := dk_84 (dk_at dksJ30_getChars_7 13 rfl rfl)
theorem dJ30_getChars_178 : decode cJ30_getChars 178 = .ok (.iload 8, 2) := dk_21 8 (dk_at dksJ30_getChars_7 14 rfl rfl)
theorem dJ30_getChars_180 : decode cJ30_getChars 180 = .ok (.ifCond .eq 12, 3) := dk_153 0 12 (dk_at dksJ30_getChars_7 16 rfl rfl)
theorem dJ30_getChars_183 : decode cJ30_getChars 183 = .ok (.aload_n 3, 1) := dk_45 (dk_at dksJ30_getChars_7 19 rfl rfl)
theorem dJ30_getChars_184 : decode cJ30_getChars 184 = .ok (.iinc 7 (-1), 3) := dk_132 7 255 (dk_at dksJ30_getChars_7 20 rfl rfl)
theorem dJ30_getChars_187 : decode cJ30_getChars 187 = .ok (.iload 7, 2) := dk_21 7 (dk_at dksJ30_getChars_8 0 rfl rfl)
theorem dJ30_getChars_189 : decode cJ30_getChars 189 = .ok (.bipush 45, 2) := dk_16 45 (dk_at dksJ30_getChars_8 2 rfl rfl)
theorem dJ30_getChars_191 : decode cJ30_getChars 191 = .ok (.bastore, 1) := dk_84 (dk_at dksJ30_getChars_8 4 rfl rfl)
theorem dJ30_getChars_192 : decode cJ30_getChars 192 = .ok (.iload 7, 2) := dk_21 7 (dk_at dksJ30_getChars_8 5 rfl rfl)
theorem dJ30_getChars_194 : decode cJ30_getChars 194 = .ok (.ireturn, 1) := dk_172 (dk_at dksJ30_getChars_8 7 rfl rfl)

/-! decode rows: J31.java_lang_IllegalStateException.lean.txt -/
set_option maxRecDepth 100000
abbrev cJ31_init : ByteArray := prog_25_method_1_code
def yJ31_init : MethodName := ⟨RJ31, "<init>", "()V"⟩
theorem dJ31_init_0 : decode cJ31_init 0 = .ok (.aload_n 0, 1) := by decide +kernel
theorem dJ31_init_1 : decode cJ31_init 1 = .ok (.invokespecial 1, 3) := by decide +kernel
theorem dJ31_init_4 : decode cJ31_init 4 = .ok (.return_, 1) := by decide +kernel
abbrev cJ31_init_2 : ByteArray := prog_25_method_2_code
def yJ31_init_2 : MethodName := ⟨RJ31, "<init>", "(Ljava/lang/String;)V"⟩
def dkwJ31_init_2_0 : List UInt8 := [42, 43, 183, 0, 7, 177]
abbrev dktJ31_init_2_0 : List UInt8 := dkwJ31_init_2_0 ++ []
theorem dksJ31_init_2_0 : cJ31_init_2.data.toList.drop 0 = dktJ31_init_2_0 := by decide +kernel
theorem dJ31_init_2_0 : decode cJ31_init_2 0 = .ok (.aload_n 0, 1) := dk_42 (dk_at dksJ31_init_2_0 0 rfl rfl)
theorem dJ31_init_2_1 : decode cJ31_init_2 1 = .ok (.aload_n 1, 1) := dk_43 (dk_at dksJ31_init_2_0 1 rfl rfl)
theorem dJ31_init_2_2 : decode cJ31_init_2 2 = .ok (.invokespecial 7, 3) := dk_183 0 7 (dk_at dksJ31_init_2_0 2 rfl rfl)
theorem dJ31_init_2_5 : decode cJ31_init_2 5 = .ok (.return_, 1) := dk_177 (dk_at dksJ31_init_2_0 5 rfl rfl)

/-! decode rows: J32.java_util_AbstractSequentialList.lean.txt -/
set_option maxRecDepth 100000
abbrev cJ32_init : ByteArray := prog_48_method_1_code
def yJ32_init : MethodName := ⟨RJ32, "<init>", "()V"⟩
theorem dJ32_init_0 : decode cJ32_init 0 = .ok (.aload_n 0, 1) := by decide +kernel
theorem dJ32_init_1 : decode cJ32_init 1 = .ok (.invokespecial 1, 3) := by decide +kernel
theorem dJ32_init_4 : decode cJ32_init 4 = .ok (.return_, 1) := by decide +kernel
abbrev cJ32_iterator : ByteArray := prog_48_method_7_code
def yJ32_iterator : MethodName := ⟨RJ32, "iterator", "()Ljava/util/Iterator;"⟩
theorem dJ32_iterator_0 : decode cJ32_iterator 0 = .ok (.aload_n 0, 1) := by decide +kernel
theorem dJ32_iterator_1 : decode cJ32_iterator 1 = .ok (.invokevirtual 65, 3) := by decide +kernel
theorem dJ32_iterator_4 : decode cJ32_iterator 4 = .ok (.areturn, 1) := by decide +kernel

/-! decode rows: J33.java_util_LinkedList.lean.txt -/
set_option maxRecDepth 100000
abbrev cJ33_size : ByteArray := prog_64_method_16_code
def yJ33_size : MethodName := ⟨RJ33, "size", "()I"⟩
theorem dJ33_size_0 : decode cJ33_size 0 = .ok (.aload_n 0, 1) := by decide +kernel
theorem dJ33_size_1 : decode cJ33_size 1 = .ok (.getfield 7, 3) := by decide +kernel
theorem dJ33_size_4 : decode cJ33_size 4 = .ok (.ireturn, 1) := by decide +kernel
abbrev cJ33_add : ByteArray := prog_64_method_17_code
def yJ33_add : MethodName := ⟨RJ33, "add", "(Ljava/lang/Object;)Z"⟩
def dkwJ33_add_0 : List UInt8 := [42, 43, 182, 0, 57, 4, 172]
abbrev dktJ33_add_0 : List UInt8 := dkwJ33_add_0 ++ []
theorem dksJ33_add_0 : cJ33_add.data.toList.drop 0 = dktJ33_add_0 := by decide +kernel
theorem dJ33_add_0 : decode cJ33_add 0 = .ok (.aload_n 0, 1) := dk_42 (dk_at dksJ33_add_0 0 rfl rfl)
theorem dJ33_add_1 : decode cJ33_add 1 = .ok (.aload_n 1, 1) := dk_43 (dk_at dksJ33_add_0 1 rfl rfl)
theorem dJ33_add_2 : decode cJ33_add 2 = .ok (.invokevirtual 57, 3) := dk_182 0 57 (dk_at dksJ33_add_0 2 rfl rfl)
theorem dJ33_add_5 : decode cJ33_add 5 = .ok (.iconst 1, 1) := dk_4 (dk_at dksJ33_add_0 5 rfl rfl)
theorem dJ33_add_6 : decode cJ33_add 6 = .ok (.ireturn, 1) := dk_172 (dk_at dksJ33_add_0 6 rfl rfl)
abbrev cJ33_linkLast : ByteArray := prog_64_method_4_code
def yJ33_linkLast : MethodName := ⟨RJ33, "linkLast", "(Ljava/lang/Object;)V"⟩
def dkwJ33_linkLast_2 : List UInt8 := [181, 0, 7, 42, 89, 180, 0, 33, 4, 96, 181, 0, 33, 177]
abbrev dktJ33_linkLast_2 : List UInt8 := dkwJ33_linkLast_2 ++ []
def dkwJ33_linkLast_1 : List UInt8 := [199, 0, 11, 42, 45, 181, 0, 18, 167, 0, 8, 44, 45, 181, 0, 36, 42, 89, 180, 0, 7, 4, 96]
abbrev dktJ33_linkLast_1 : List UInt8 := dkwJ33_linkLast_1 ++ dktJ33_linkLast_2
def dkwJ33_linkLast_0 : List UInt8 := [42, 180, 0, 27, 77, 187, 0, 22, 89, 44, 43, 1, 183, 0, 24, 78, 42, 45, 181, 0, 27, 44]
abbrev dktJ33_linkLast_0 : List UInt8 := dkwJ33_linkLast_0 ++ dktJ33_linkLast_1
theorem dksJ33_linkLast_0 : cJ33_linkLast.data.toList.drop 0 = dktJ33_linkLast_0 := by decide +kernel
theorem dksJ33_linkLast_1 : cJ33_linkLast.data.toList.drop 22 = dktJ33_linkLast_1 := dk_seg dksJ33_linkLast_0 22 rfl rfl
theorem dksJ33_linkLast_2 : cJ33_linkLast.data.toList.drop 45 = dktJ33_linkLast_2 := dk_seg dksJ33_linkLast_1 23 rfl rfl
theorem dJ33_linkLast_0 : decode cJ33_linkLast 0 = .ok (.aload_n 0, 1) := dk_42 (dk_at dksJ33_linkLast_0 0 rfl rfl)
theorem dJ33_linkLast_1 : decode cJ33_linkLast 1 = .ok (.getfield 27, 3) := dk_180 0 27 (dk_at dksJ33_linkLast_0 1 rfl rfl)
theorem dJ33_linkLast_4 : decode cJ33_linkLast 4 = .ok (.astore_n 2, 1) := dk_77 (dk_at dksJ33_linkLast_0 4 rfl rfl)
theorem dJ33_linkLast_5 : decode cJ33_linkLast 5 = .ok (.new 22, 3) := dk_187 0 22 (dk_at dksJ33_linkLast_0 5 rfl rfl)
theorem dJ33_linkLast_8 : decode cJ33_linkLast 8 = .ok (.dup, 1) := dk_89 (dk_at dksJ33_linkLast_0 8 rfl rfl)
theorem dJ33_linkLast_9 : decode cJ33_linkLast 9 = .ok (.aload_n 2, 1) := dk_44 (dk_at dksJ33_linkLast_0 9 rfl rfl)
theorem dJ33_linkLast_10 : decode cJ33_linkLast 10 = .ok (.aload_n 1, 1) := dk_43 (dk_at dksJ33_linkLast_0 10 rfl rfl)
theorem dJ33_linkLast_11 : decode cJ33_linkLast 11 = .ok (.aconst_null, 1) := dk_1 (dk_at dksJ33_linkLast_0 11 rfl rfl)
theorem dJ33_linkLast_12 : decode cJ33_linkLast 12 = .ok (.invokespecial 24, 3) := dk_183 0 24 (dk_at dksJ33_linkLast_0 12 rfl rfl)
theorem dJ33_linkLast_15 : decode cJ33_linkLast 15 = .ok (.astore_n 3, 1) := dk_78 (dk_at dksJ33_linkLast_0 15 rfl rfl)
theorem dJ33_linkLast_16 : decode cJ33_linkLast 16 = .ok (.aload_n 0, 1) := dk_42 (dk_at dksJ33_linkLast_0 16 rfl rfl)
theorem dJ33_linkLast_17 : decode cJ33_linkLast 17 = .ok (.aload_n 3, 1) := dk_45 (dk_at dksJ33_linkLast_0 17 rfl rfl)
theorem dJ33_linkLast_18 : decode cJ33_linkLast 18 = .ok (.putfield 27, 3) := dk_181 0 27 (dk_at dksJ33_linkLast_0 18 rfl rfl)
theorem dJ33_linkLast_21 : decode cJ33_linkLast 21 = .ok (.aload_n 2, 1) := dk_44 (dk_at dksJ33_linkLast_0 21 rfl rfl)
theorem dJ33_linkLast_22 : decode cJ33_linkLast 22 = .ok (.ifnonnull 11, 3) := dk_199 0 11 (dk_at dksJ33_linkLast_1 0 rfl rfl)
theorem dJ33_linkLast_25 : decode cJ33_linkLast 25 = .ok (.aload_n 0, 1) := dk_42 (dk_at dksJ33_linkLast_1 3 rfl rfl)
theorem dJ33_linkLast_26 : decode cJ33_linkLast 26 = .ok (.aload_n 3, 1) := dk_45 (dk_at dksJ33_linkLast_1 4 rfl rfl)
theorem dJ33_linkLast_27 : decode cJ33_linkLast 27 = .ok (.putfield 18, 3) := dk_181 0 18 (dk_at dksJ33_linkLast_1 5 rfl rfl)
theorem dJ33_linkLast_30 : decode cJ33_linkLast 30 = .ok (.goto 8, 3) := dk_167 0 8 (dk_at dksJ33_linkLast_1 8 rfl rfl)
theorem dJ33_linkLast_33 : decode cJ33_linkLast 33 = .ok (.aload_n 2, 1) := dk_44 (dk_at dksJ33_linkLast_1 11 rfl rfl)
theorem dJ33_linkLast_34 : decode cJ33_linkLast 34 = .ok (.aload_n 3, 1) := dk_45 (dk_at dksJ33_linkLast_1 12 rfl rfl)
theorem dJ33_linkLast_35 : decode cJ33_linkLast 35 = .ok (.putfield 36, 3) := dk_181 0 36 (dk_at dksJ33_linkLast_1 13 rfl rfl)
theorem dJ33_linkLast_38 : decode cJ33_linkLast 38 = .ok (.aload_n 0, 1) := dk_42 (dk_at dksJ33_linkLast_1 16 rfl rfl)
theorem dJ33_linkLast_39 : decode cJ33_linkLast 39 = .ok (.dup, 1) := dk_89 (dk_at dksJ33_linkLast_1 17 rfl rfl)
theorem dJ33_linkLast_40 : decode cJ33_linkLast 40 = .ok (.getfield 7, 3) := dk_180 0 7 (dk_at dksJ33_linkLast_1 18 rfl rfl)
theorem dJ33_linkLast_43 : decode cJ33_linkLast 43 = .ok (.iconst 1, 1) := dk_4 (dk_at dksJ33_linkLast_1 21 rfl rfl)
theorem dJ33_linkLast_44 : decode cJ33_linkLast 44 = .ok (.iadd, 1) := dk_96 (dk_at dksJ33_linkLast_1 22 rfl rfl)
theorem dJ33_linkLast_45 : decode cJ33_linkLast 45 = .ok (.putfield 7, 3) := dk_181 0 7 (dk_at dksJ33_linkLast_2 0 rfl rfl)
theorem dJ33_linkLast_48 : decode cJ33_linkLast 48 = .ok (.aload_n 0, 1) := dk_42 (dk_at dksJ33_linkLast_2 3 rfl rfl)
theorem dJ33_linkLast_49 : decode cJ33_linkLast 49 = .ok (.dup, 1) := dk_89 (dk_at dksJ33_linkLast_2 4 rfl rfl)
theorem dJ33_linkLast_50 : decode cJ33_linkLast 50 = .ok (.getfield 33, 3) := dk_180 0 33 (dk_at dksJ33_linkLast_2 5 rfl rfl)
theorem dJ33_linkLast_53 : decode cJ33_linkLast 53 = .ok (.iconst 1, 1) := dk_4 (dk_at dksJ33_linkLast_2 8 rfl rfl)
theorem dJ33_linkLast_54 : decode cJ33_linkLast 54 = .ok (.iadd, 1) := dk_96 (dk_at dksJ33_linkLast_2 9 rfl rfl)
theorem dJ33_linkLast_55 : decode cJ33_linkLast 55 = .ok (.putfield 33, 3) := dk_181 0 33 (dk_at dksJ33_linkLast_2 10 rfl rfl)
theorem dJ33_linkLast_58 : decode cJ33_linkLast 58 = .ok (.return_, 1) := dk_177 (dk_at dksJ33_linkLast_2 13 rfl rfl)
abbrev cJ33_contains : ByteArray := prog_64_method_15_code
def yJ33_contains : MethodName := ⟨RJ33, "contains", "(Ljava/lang/Object;)Z"⟩
def dkwJ33_contains_0 : List UInt8 := [42, 43, 182, 0, 60, 155, 0, 7, 4, 167, 0, 4, 3, 172]
abbrev dktJ33_contains_0 : List UInt8 := dkwJ33_contains_0 ++ []
theorem dksJ33_contains_0 : cJ33_contains.data.toList.drop 0 = dktJ33_contains_0 := by decide +kernel
theorem dJ33_contains_0 : decode cJ33_contains 0 = .ok (.aload_n 0, 1) := dk_42 (dk_at dksJ33_contains_0 0 rfl rfl)
theorem dJ33_contains_1 : decode cJ33_contains 1 = .ok (.aload_n 1, 1) := dk_43 (dk_at dksJ33_contains_0 1 rfl rfl)
theorem dJ33_contains_2 : decode cJ33_contains 2 = .ok (.invokevirtual 60, 3) := dk_182 0 60 (dk_at dksJ33_contains_0 2 rfl rfl)
theorem dJ33_contains_5 : decode cJ33_contains 5 = .ok (.ifCond .lt 7, 3) := dk_155 0 7 (dk_at dksJ33_contains_0 5 rfl rfl)
theorem dJ33_contains_8 : decode cJ33_contains 8 = .ok (.iconst 1, 1) := dk_4 (dk_at dksJ33_contains_0 8 rfl rfl)
theorem dJ33_contains_9 : decode cJ33_contains 9 = .ok (.goto 4, 3) := dk_167 0 4 (dk_at dksJ33_contains_0 9 rfl rfl)
theorem dJ33_contains_12 : decode cJ33_contains 12 = .ok (.iconst 0, 1) := dk_3 (dk_at dksJ33_contains_0 12 rfl rfl)
theorem dJ33_contains_13 : decode cJ33_contains 13 = .ok (.ireturn, 1) := dk_172 (dk_at dksJ33_contains_0 13 rfl rfl)
abbrev cJ33_indexOf : ByteArray := prog_64_method_32_code
def yJ33_indexOf : MethodName := ⟨RJ33, "indexOf", "(Ljava/lang/Object;)I"⟩
def dkwJ33_indexOf_3 : List UInt8 := [172]
abbrev dktJ33_indexOf_3 : List UInt8 := dkwJ33_indexOf_3 ++ []
def dkwJ33_indexOf_2 : List UInt8 := [45, 180, 0, 39, 182, 0, 67, 153, 0, 5, 28, 172, 132, 2, 1, 45, 180, 0, 36, 78, 167, 255, 231, 2]
abbrev dktJ33_indexOf_2 : List UInt8 := dkwJ33_indexOf_2 ++ dktJ33_indexOf_3
def dkwJ33_indexOf_1 : List UInt8 := [132, 2, 1, 45, 180, 0, 36, 78, 167, 255, 235, 167, 0, 36, 42, 180, 0, 18, 78, 45, 198, 0, 27, 43]
abbrev dktJ33_indexOf_1 : List UInt8 := dkwJ33_indexOf_1 ++ dktJ33_indexOf_2
def dkwJ33_indexOf_0 : List UInt8 := [3, 61, 43, 199, 0, 35, 42, 180, 0, 18, 78, 45, 198, 0, 23, 45, 180, 0, 39, 199, 0, 5, 28, 172]
abbrev dktJ33_indexOf_0 : List UInt8 := dkwJ33_indexOf_0 ++ dktJ33_indexOf_1
theorem dksJ33_indexOf_0 : cJ33_indexOf.data.toList.drop 0 = dktJ33_indexOf_0 := by decide +kernel
theorem dksJ33_indexOf_1 : cJ33_indexOf.data.toList.drop 24 = dktJ33_indexOf_1 := dk_seg dksJ33_indexOf_0 24 rfl rfl
theorem dksJ33_indexOf_2 : cJ33_indexOf.data.toList.drop 48 = dktJ33_indexOf_2 := dk_seg dksJ33_indexOf_1 24 rfl rfl
theorem dksJ33_indexOf_3 : cJ33_indexOf.data.toList.drop 72 = dktJ33_indexOf_3 := dk_seg dksJ33_indexOf_2 24 rfl rfl
theorem dJ33_indexOf_0 : decode cJ33_indexOf 0 = .ok (.iconst 0, 1) := dk_3 (dk_at dksJ33_indexOf_0 0 rfl rfl)
theorem dJ33_indexOf_1 : decode cJ33_indexOf 1 = .ok (.istore_n 2, 1) := dk_61 (dk_at dksJ33_indexOf_0 1 rfl rfl)
theorem dJ33_indexOf_2 : decode cJ33_indexOf 2 = .ok (.aload_n 1, 1) := dk_43 (dk_at dksJ33_indexOf_0 2 rfl rfl)
theorem dJ33_indexOf_3 : decode cJ33_indexOf 3 = .ok (.ifnonnull 35, 3) := dk_199 0 35 (dk_at dksJ33_indexOf_0 3 rfl rfl)
theorem dJ33_indexOf_6 : decode cJ33_indexOf 6 = .ok (.aload_n 0, 1) := dk_42 (dk_at dksJ33_indexOf_0 6 rfl rfl)
theorem dJ33_indexOf_7 : decode cJ33_indexOf 7 = .ok (.getfield 18, 3) := dk_180 0 18 (dk_at dksJ33_indexOf_0 7 rfl rfl)
theorem dJ33_indexOf_10 : decode cJ33_indexOf 10 = .ok (.astore_n 3, 1) := dk_78 (dk_at dksJ33_indexOf_0 10 rfl rfl)
theorem dJ33_indexOf_11 : decode cJ33_indexOf 11 = .ok (.aload_n 3, 1) := dk_45 (dk_at dksJ33_indexOf_0 11 rfl rfl)
theorem dJ33_indexOf_12 : decode cJ33_indexOf 12 = .ok (.ifnull 23, 3) := dk_198 0 23 (dk_at dksJ33_indexOf_0 12 rfl rfl)
theorem dJ33_indexOf_15 : decode cJ33_indexOf 15 = .ok (.aload_n 3, 1) := dk_45 (dk_at dksJ33_indexOf_0 15 rfl rfl)
theorem dJ33_indexOf_16 : decode cJ33_indexOf 16 = .ok (.getfield 39, 3) := dk_180 0 39 (dk_at dksJ33_indexOf_0 16 rfl rfl)
theorem dJ33_indexOf_19 : decode cJ33_indexOf 19 = .ok (.ifnonnull 5, 3) := dk_199 0 5 (dk_at dksJ33_indexOf_0 19 rfl rfl)
theorem dJ33_indexOf_22 : decode cJ33_indexOf 22 = .ok (.iload_n 2, 1) := dk_28 (dk_at dksJ33_indexOf_0 22 rfl rfl)
theorem dJ33_indexOf_23 : decode cJ33_indexOf 23 = .ok (.ireturn, 1) := dk_172 (dk_at dksJ33_indexOf_0 23 rfl rfl)
theorem dJ33_indexOf_24 : decode cJ33_indexOf 24 = .ok (.iinc 2 1, 3) := dk_132 2 1 (dk_at dksJ33_indexOf_1 0 rfl rfl)
theorem dJ33_indexOf_27 : decode cJ33_indexOf 27 = .ok (.aload_n 3, 1) := dk_45 (dk_at dksJ33_indexOf_1 3 rfl rfl)
theorem dJ33_indexOf_28 : decode cJ33_indexOf 28 = .ok (.getfield 36, 3) := dk_180 0 36 (dk_at dksJ33_indexOf_1 4 rfl rfl)
theorem dJ33_indexOf_31 : decode cJ33_indexOf 31 = .ok (.astore_n 3, 1) := dk_78 (dk_at dksJ33_indexOf_1 7 rfl rfl)
theorem dJ33_indexOf_32 : decode cJ33_indexOf 32 = .ok (.goto (-21), 3) := dk_167 255 235 (dk_at dksJ33_indexOf_1 8 rfl rfl)
theorem dJ33_indexOf_35 : decode cJ33_indexOf 35 = .ok (.goto 36, 3) := dk_167 0 36 (dk_at dksJ33_indexOf_1 11 rfl rfl)
theorem dJ33_indexOf_38 : decode cJ33_indexOf 38 = .ok (.aload_n 0, 1) := dk_42 (dk_at dksJ33_indexOf_1 14 rfl rfl)
theorem dJ33_indexOf_39 : decode cJ33_indexOf 39 = .ok (.getfield 18, 3) := dk_180 0 18 (dk_at dksJ33_indexOf_1 15 rfl rfl)
theorem dJ33_indexOf_42 : decode cJ33_indexOf 42 = .ok (.astore_n 3, 1) := dk_78 (dk_at dksJ33_indexOf_1 18 rfl rfl)
theorem dJ33_indexOf_43 : decode cJ33_indexOf 43 = .ok (.aload_n 3, 1) := dk_45 (dk_at dksJ33_indexOf_1 19 rfl rfl)
theorem dJ33_indexOf_44 : decode cJ33_indexOf 44 = .ok (.ifnull 27, 3) := dk_198 0 27 (dk_at dksJ33_indexOf_1 20 rfl rfl)
theorem dJ33_indexOf_47 : decode cJ33_indexOf 47 = .ok (.aload_n 1, 1) := dk_43 (dk_at dksJ33_indexOf_1 23 rfl rfl)
theorem dJ33_indexOf_48 : decode cJ33_indexOf 48 = .ok (.aload_n 3, 1) := dk_45 (dk_at dksJ33_indexOf_2 0 rfl rfl)
theorem dJ33_indexOf_49 : decode cJ33_indexOf 49 = .ok (.getfield 39, 3) := dk_180 0 39 (dk_at dksJ33_indexOf_2 1 rfl rfl)
theorem dJ33_indexOf_52 : decode cJ33_indexOf 52 = .ok (.invokevirtual 67, 3) := dk_182 0 67 (dk_at dksJ33_indexOf_2 4 rfl rfl)
theorem dJ33_indexOf_55 : decode cJ33_indexOf 55 = .ok (.ifCond .eq 5, 3) := dk_153 0 5 (dk_at dksJ33_indexOf_2 7 rfl rfl)
theorem dJ33_indexOf_58 : decode cJ33_indexOf 58 = .ok (.iload_n 2, 1) := dk_28 (dk_at dksJ33_indexOf_2 10 rfl rfl)
theorem dJ33_indexOf_59 : decode cJ33_indexOf 59 = .ok (.ireturn, 1) := dk_172 (dk_at dksJ33_indexOf_2 11 rfl rfl)
theorem dJ33_indexOf_60 : decode cJ33_indexOf 60 = .ok (.iinc 2 1, 3) := dk_132 2 1 (dk_at dksJ33_indexOf_2 12 rfl rfl)
theorem dJ33_indexOf_63 : decode cJ33_indexOf 63 = .ok (.aload_n 3, 1) := dk_45 (dk_at dksJ33_indexOf_2 15 rfl rfl)
theorem dJ33_indexOf_64 : decode cJ33_indexOf 64 = .ok (.getfield 36, 3) := dk_180 0 36 (dk_at dksJ33_indexOf_2 16 rfl rfl)
theorem dJ33_indexOf_67 : decode cJ33_indexOf 67 = .ok (.astore_n 3, 1) := dk_78 (dk_at dksJ33_indexOf_2 19 rfl rfl)
theorem dJ33_indexOf_68 : decode cJ33_indexOf 68 = .ok (.goto (-25), 3) := dk_167 255 231 (dk_at dksJ33_indexOf_2 20 rfl rfl)
theorem dJ33_indexOf_71 : decode cJ33_indexOf 71 = .ok (.iconst (-1), 1) := dk_2 (dk_at dksJ33_indexOf_2 23 rfl rfl)
theorem dJ33_indexOf_72 : decode cJ33_indexOf 72 = .ok (.ireturn, 1) := dk_172 (dk_at dksJ33_indexOf_3 0 rfl rfl)
abbrev cJ33_get : ByteArray := prog_64_method_22_code
def yJ33_get : MethodName := ⟨RJ33, "get", "(I)Ljava/lang/Object;"⟩
def dkwJ33_get_0 : List UInt8 := [42, 27, 182, 0, 90, 42, 27, 182, 0, 86, 180, 0, 39, 176]
abbrev dktJ33_get_0 : List UInt8 := dkwJ33_get_0 ++ []
theorem dksJ33_get_0 : cJ33_get.data.toList.drop 0 = dktJ33_get_0 := by decide +kernel
theorem dJ33_get_0 : decode cJ33_get 0 = .ok (.aload_n 0, 1) := dk_42 (dk_at dksJ33_get_0 0 rfl rfl)
theorem dJ33_get_1 : decode cJ33_get 1 = .ok (.iload_n 1, 1) := dk_27 (dk_at dksJ33_get_0 1 rfl rfl)
theorem dJ33_get_2 : decode cJ33_get 2 = .ok (.invokevirtual 90, 3) := dk_182 0 90 (dk_at dksJ33_get_0 2 rfl rfl)
theorem dJ33_get_5 : decode cJ33_get 5 = .ok (.aload_n 0, 1) := dk_42 (dk_at dksJ33_get_0 5 rfl rfl)
theorem dJ33_get_6 : decode cJ33_get 6 = .ok (.iload_n 1, 1) := dk_27 (dk_at dksJ33_get_0 6 rfl rfl)
theorem dJ33_get_7 : decode cJ33_get 7 = .ok (.invokevirtual 86, 3) := dk_182 0 86 (dk_at dksJ33_get_0 7 rfl rfl)
theorem dJ33_get_10 : decode cJ33_get 10 = .ok (.getfield 39, 3) := dk_180 0 39 (dk_at dksJ33_get_0 10 rfl rfl)
theorem dJ33_get_13 : decode cJ33_get 13 = .ok (.areturn, 1) := dk_176 (dk_at dksJ33_get_0 13 rfl rfl)
abbrev cJ33_checkElementIndex : ByteArray := prog_64_method_29_code
def yJ33_checkElementIndex : MethodName := ⟨RJ33, "checkElementIndex", "(I)V"⟩
def dkwJ33_checkElementIndex_0 : List UInt8 := [42, 27, 182, 0, 115, 154, 0, 16, 187, 0, 119, 89, 42, 27, 182, 0, 121, 183, 0, 125, 191, 177]
abbrev dktJ33_checkElementIndex_0 : List UInt8 := dkwJ33_checkElementIndex_0 ++ []
theorem dksJ33_checkElementIndex_0 : cJ33_checkElementIndex.data.toList.drop 0 = dktJ33_checkElementIndex_0 := by decide +kernel
theorem dJ33_checkElementIndex_0 : decode cJ33_checkElementIndex 0 = .ok (.aload_n 0, 1) := dk_42 (dk_at dksJ33_checkElementIndex_0 0 rfl rfl)
theorem dJ33_checkElementIndex_1 : decode cJ33_checkElementIndex 1 = .ok (.iload_n 1, 1) := dk_27 (dk_at dksJ33_checkElementIndex_0 1 rfl rfl)
theorem dJ33_checkElementIndex_2 : decode cJ33_checkElementIndex 2 = .ok (.invokevirtual 115, 3) := dk_182 0 115 (dk_at dksJ33_checkElementIndex_0 2 rfl rfl)
theorem dJ33_checkElementIndex_5 : decode cJ33_checkElementIndex 5 = .ok (.ifCond .ne 16, 3) := dk_154 0 16 (dk_at dksJ33_checkElementIndex_0 5 rfl rfl)
theorem dJ33_checkElementIndex_8 : decode cJ33_checkElementIndex 8 = .ok (.new 119, 3) := dk_187 0 119 (dk_at dksJ33_checkElementIndex_0 8 rfl rfl)
theorem dJ33_checkElementIndex_11 : decode cJ33_checkElementIndex 11 = .ok (.dup, 1) := dk_89 (dk_at dksJ33_checkElementIndex_0 11 rfl rfl)
theorem dJ33_checkElementIndex_12 : decode cJ33_checkElementIndex 12 = .ok (.aload_n 0, 1) := dk_42 (dk_at dksJ33_checkElementIndex_0 12 rfl rfl)
theorem dJ33_checkElementIndex_13 : decode cJ33_checkElementIndex 13 = .ok (.iload_n 1, 1) := dk_27 (dk_at dksJ33_checkElementIndex_0 13 rfl rfl)
theorem dJ33_checkElementIndex_14 : decode cJ33_checkElementIndex 14 = .ok (.invokevirtual 121, 3) := dk_182 0 121 (dk_at dksJ33_checkElementIndex_0 14 rfl rfl)
theorem dJ33_checkElementIndex_17 : decode cJ33_checkElementIndex 17 = .ok (.invokespecial 125, 3) := dk_183 0 125 (dk_at dksJ33_checkElementIndex_0 17 rfl rfl)
theorem dJ33_checkElementIndex_20 : decode cJ33_checkElementIndex 20 = .ok (.athrow, 1) := dk_191 (dk_at dksJ33_checkElementIndex_0 20 rfl rfl)
theorem dJ33_checkElementIndex_21 : decode cJ33_checkElementIndex 21 = .ok (.return_, 1) := dk_177 (dk_at dksJ33_checkElementIndex_0 21 rfl rfl)
abbrev cJ33_isElementIndex : ByteArray := prog_64_method_26_code
def yJ33_isElementIndex : MethodName := ⟨RJ33, "isElementIndex", "(I)Z"⟩
def dkwJ33_isElementIndex_0 : List UInt8 := [27, 155, 0, 15, 27, 42, 180, 0, 7, 162, 0, 7, 4, 167, 0, 4, 3, 172]
abbrev dktJ33_isElementIndex_0 : List UInt8 := dkwJ33_isElementIndex_0 ++ []
theorem dksJ33_isElementIndex_0 : cJ33_isElementIndex.data.toList.drop 0 = dktJ33_isElementIndex_0 := by decide +kernel
theorem dJ33_isElementIndex_0 : decode cJ33_isElementIndex 0 = .ok (.iload_n 1, 1) := dk_27 (dk_at dksJ33_isElementIndex_0 0 rfl rfl)
theorem dJ33_isElementIndex_1 : decode cJ33_isElementIndex 1 = .ok (.ifCond .lt 15, 3) := dk_155 0 15 (dk_at dksJ33_isElementIndex_0 1 rfl rfl)
theorem dJ33_isElementIndex_4 : decode cJ33_isElementIndex 4 = .ok (.iload_n 1, 1) := dk_27 (dk_at dksJ33_isElementIndex_0 4 rfl rfl)
theorem dJ33_isElementIndex_5 : decode cJ33_isElementIndex 5 = .ok (.aload_n 0, 1) := dk_42 (dk_at dksJ33_isElementIndex_0 5 rfl rfl)
theorem dJ33_isElementIndex_6 : decode cJ33_isElementIndex 6 = .ok (.getfield 7, 3) := dk_180 0 7 (dk_at dksJ33_isElementIndex_0 6 rfl rfl)
theorem dJ33_isElementIndex_9 : decode cJ33_isElementIndex 9 = .ok (.if_icmp .ge 7, 3) := dk_162 0 7 (dk_at dksJ33_isElementIndex_0 9 rfl rfl)
theorem dJ33_isElementIndex_12 : decode cJ33_isElementIndex 12 = .ok (.iconst 1, 1) := dk_4 (dk_at dksJ33_isElementIndex_0 12 rfl rfl)
theorem dJ33_isElementIndex_13 : decode cJ33_isElementIndex 13 = .ok (.goto 4, 3) := dk_167 0 4 (dk_at dksJ33_isElementIndex_0 13 rfl rfl)
theorem dJ33_isElementIndex_16 : decode cJ33_isElementIndex 16 = .ok (.iconst 0, 1) := dk_3 (dk_at dksJ33_isElementIndex_0 16 rfl rfl)
theorem dJ33_isElementIndex_17 : decode cJ33_isElementIndex 17 = .ok (.ireturn, 1) := dk_172 (dk_at dksJ33_isElementIndex_0 17 rfl rfl)
abbrev cJ33_outOfBoundsMsg : ByteArray := prog_64_method_28_code
def yJ33_outOfBoundsMsg : MethodName := ⟨RJ33, "outOfBoundsMsg", "(I)Ljava/lang/String;"⟩
def dkwJ33_outOfBoundsMsg_1 : List UInt8 := [180, 0, 7, 182, 0, 106, 182, 0, 111, 176]
abbrev dktJ33_outOfBoundsMsg_1 : List UInt8 := dkwJ33_outOfBoundsMsg_1 ++ []
def dkwJ33_outOfBoundsMsg_0 : List UInt8 := [187, 0, 97, 89, 183, 0, 99, 18, 100, 182, 0, 102, 27, 182, 0, 106, 18, 109, 182, 0, 102, 42]
abbrev dktJ33_outOfBoundsMsg_0 : List UInt8 := dkwJ33_outOfBoundsMsg_0 ++ dktJ33_outOfBoundsMsg_1
theorem dksJ33_outOfBoundsMsg_0 : cJ33_outOfBoundsMsg.data.toList.drop 0 = dktJ33_outOfBoundsMsg_0 := by decide +kernel
theorem dksJ33_outOfBoundsMsg_1 : cJ33_outOfBoundsMsg.data.toList.drop 22 = dktJ33_outOfBoundsMsg_1 := dk_seg dksJ33_outOfBoundsMsg_0 22 rfl rfl
theorem dJ33_outOfBoundsMsg_0 : decode cJ33_outOfBoundsMsg 0 = .ok (.new 97, 3) := dk_187 0 97 (dk_at dksJ33_outOfBoundsMsg_0 0 rfl rfl)
theorem dJ33_outOfBoundsMsg_3 : decode cJ33_outOfBoundsMsg 3 = .ok (.dup, 1) := dk_89 (dk_at dksJ33_outOfBoundsMsg_0 3 rfl rfl)
theorem dJ33_outOfBoundsMsg_4 : decode cJ33_outOfBoundsMsg 4 = .ok (.invokespecial 99, 3) := dk_183 0 99 (dk_at dksJ33_outOfBoundsMsg_0 4 rfl rfl)
theorem dJ33_outOfBoundsMsg_7 : decode cJ33_outOfBoundsMsg 7 = .ok (.ldc 100, 2) := dk_18 100 (dk_at dksJ33_outOfBoundsMsg_0 7 rfl rfl)
theorem dJ33_outOfBoundsMsg_9 : decode cJ33_outOfBoundsMsg 9 = .ok (.invokevirtual 102, 3) := dk_182 0 102 (dk_at dksJ33_outOfBoundsMsg_0 9 rfl rfl)
theorem dJ33_outOfBoundsMsg_12 : decode cJ33_outOfBoundsMsg 12 = .ok (.iload_n 1, 1) := dk_27 (dk_at dksJ33_outOfBoundsMsg_0 12 rfl rfl)
theorem dJ33_outOfBoundsMsg_13 : decode cJ33_outOfBoundsMsg 13 = .ok (.invokevirtual 106, 3) := dk_182 0 106 (dk_at dksJ33_outOfBoundsMsg_0 13 rfl rfl)
theorem dJ33_outOfBoundsMsg_16 : decode cJ33_outOfBoundsMsg 16 = .ok (.ldc 109, 2) := dk_18 109 (dk_at dksJ33_outOfBoundsMsg_0 16 rfl rfl)
theorem dJ33_outOfBoundsMsg_18 : decode cJ33_outOfBoundsMsg 18 = .ok (.invokevirtual 102, 3) := dk_182 0 102 (dk_at dksJ33_outOfBoundsMsg_0 18 rfl rfl)
theorem dJ33_outOfBoundsMsg_21 : decode cJ33_outOfBoundsMsg 21 = .ok (.aload_n 0, 1) := dk_42 (dk_at dksJ33_outOfBoundsMsg_0 21 rfl rfl)
theorem dJ33_outOfBoundsMsg_22 : decode cJ33_outOfBoundsMsg 22 = .ok (.getfield 7, 3) := dk_180 0 7 (dk_at dksJ33_outOfBoundsMsg_1 0 rfl rfl)
theorem dJ33_outOfBoundsMsg_25 : decode cJ33_outOfBoundsMsg 25 = .ok (.invokevirtual 106, 3) := dk_182 0 106 (dk_at dksJ33_outOfBoundsMsg_1 3 rfl rfl)
theorem dJ33_outOfBoundsMsg_28 : decode cJ33_outOfBoundsMsg 28 = .ok (.invokevirtual 111, 3) := dk_182 0 111 (dk_at dksJ33_outOfBoundsMsg_1 6 rfl rfl)
theorem dJ33_outOfBoundsMsg_31 : decode cJ33_outOfBoundsMsg 31 = .ok (.areturn, 1) := dk_176 (dk_at dksJ33_outOfBoundsMsg_1 9 rfl rfl)
abbrev cJ33_node : ByteArray := prog_64_method_31_code
def yJ33_node : MethodName := ⟨RJ33, "node", "(I)Ljava/util/LinkedList$Node;"⟩
def dkwJ33_node_2 : List UInt8 := [29, 27, 164, 0, 14, 44, 180, 0, 30, 77, 132, 3, 255, 167, 255, 243, 44, 176]
abbrev dktJ33_node_2 : List UInt8 := dkwJ33_node_2 ++ []
def dkwJ33_node_1 : List UInt8 := [180, 0, 36, 77, 132, 3, 1, 167, 255, 243, 44, 176, 42, 180, 0, 27, 77, 42, 180, 0, 7, 4, 100, 62]
abbrev dktJ33_node_1 : List UInt8 := dkwJ33_node_1 ++ dktJ33_node_2
def dkwJ33_node_0 : List UInt8 := [27, 42, 180, 0, 7, 4, 122, 162, 0, 28, 42, 180, 0, 18, 77, 3, 62, 29, 27, 162, 0, 14, 44]
abbrev dktJ33_node_0 : List UInt8 := dkwJ33_node_0 ++ dktJ33_node_1
theorem dksJ33_node_0 : cJ33_node.data.toList.drop 0 = dktJ33_node_0 := by decide +kernel
theorem dksJ33_node_1 : cJ33_node.data.toList.drop 23 = dktJ33_node_1 := dk_seg dksJ33_node_0 23 rfl rfl
theorem dksJ33_node_2 : cJ33_node.data.toList.drop 47 = dktJ33_node_2 := dk_seg dksJ33_node_1 24 rfl rfl
theorem dJ33_node_0 : decode cJ33_node 0 = .ok (.iload_n 1, 1) := dk_27 (dk_at dksJ33_node_0 0 rfl rfl)
theorem dJ33_node_1 : decode cJ33_node 1 = .ok (.aload_n 0, 1) := dk_42 (dk_at dksJ33_node_0 1 rfl rfl)
theorem dJ33_node_2 : decode cJ33_node 2 = .ok (.getfield 7, 3) := dk_180 0 7 (dk_at dksJ33_node_0 2 rfl rfl)
theorem dJ33_node_5 : decode cJ33_node 5 = .ok (.iconst 1, 1) := dk_4 (dk_at dksJ33_node_0 5 rfl rfl)
theorem dJ33_node_6 : decode cJ33_node 6 = .ok (.ishr, 1) := dk_122 (dk_at dksJ33_node_0 6 rfl rfl)
theorem dJ33_node_7 : decode cJ33_node 7 = .ok (.if_icmp .ge 28, 3) := dk_162 0 28 (dk_at dksJ33_node_0 7 rfl rfl)
theorem dJ33_node_10 : decode cJ33_node 10 = .ok (.aload_n 0, 1) := dk_42 (dk_at dksJ33_node_0 10 rfl rfl)
theorem dJ33_node_11 : decode cJ33_node 11 = .ok (.getfield 18, 3) := dk_180 0 18 (dk_at dksJ33_node_0 11 rfl rfl)
theorem dJ33_node_14 : decode cJ33_node 14 = .ok (.astore_n 2, 1) := dk_77 (dk_at dksJ33_node_0 14 rfl rfl)
theorem dJ33_node_15 : decode cJ33_node 15 = .ok (.iconst 0, 1) := dk_3 (dk_at dksJ33_node_0 15 rfl rfl)
theorem dJ33_node_16 : decode cJ33_node 16 = .ok (.istore_n 3, 1) := dk_62 (dk_at dksJ33_node_0 16 rfl rfl)
theorem dJ33_node_17 : decode cJ33_node 17 = .ok (.iload_n 3, 1) := dk_29 (dk_at dksJ33_node_0 17 rfl rfl)
theorem dJ33_node_18 : decode cJ33_node 18 = .ok (.iload_n 1, 1) := dk_27 (dk_at dksJ33_node_0 18 rfl rfl)
theorem dJ33_node_19 : decode cJ33_node 19 = .ok (.if_icmp .ge 14, 3) := dk_162 0 14 (dk_at dksJ33_node_0 19 rfl rfl)
theorem dJ33_node_22 : decode cJ33_node 22 = .ok (.aload_n 2, 1) := dk_44 (dk_at dksJ33_node_0 22 rfl rfl)
theorem dJ33_node_23 : decode cJ33_node 23 = .ok (.getfield 36, 3) := dk_180 0 36 (dk_at dksJ33_node_1 0 rfl rfl)
theorem dJ33_node_26 : decode cJ33_node 26 = .ok (.astore_n 2, 1) := dk_77 (dk_at dksJ33_node_1 3 rfl rfl)
theorem dJ33_node_27 : decode cJ33_node 27 = .ok (.iinc 3 1, 3) := dk_132 3 1 (dk_at dksJ33_node_1 4 rfl rfl)
theorem dJ33_node_30 : decode cJ33_node 30 = .ok (.goto (-13), 3) := dk_167 255 243 (dk_at dksJ33_node_1 7 rfl rfl)
theorem dJ33_node_33 : decode cJ33_node 33 = .ok (.aload_n 2, 1) := dk_44 (dk_at dksJ33_node_1 10 rfl rfl)
theorem dJ33_node_34 : decode cJ33_node 34 = .ok (.areturn, 1) := dk_176 (dk_at dksJ33_node_1 11 rfl rfl)
theorem dJ33_node_35 : decode cJ33_node 35 = .ok (.aload_n 0, 1) := dk_42 (dk_at dksJ33_node_1 12 rfl rfl)
theorem dJ33_node_36 : decode cJ33_node 36 = .ok (.getfield 27, 3) := dk_180 0 27 (dk_at dksJ33_node_1 13 rfl rfl)
theorem dJ33_node_39 : decode cJ33_node 39 = .ok (.astore_n 2, 1) := dk_77 (dk_at dksJ33_node_1 16 rfl rfl)
theorem dJ33_node_40 : decode cJ33_node 40 = .ok (.aload_n 0, 1) := dk_42 (dk_at dksJ33_node_1 17 rfl rfl)
theorem dJ33_node_41 : decode cJ33_node 41 = .ok (.getfield 7, 3) := dk_180 0 7 (dk_at dksJ33_node_1 18 rfl rfl)
theorem dJ33_node_44 : decode cJ33_node 44 = .ok (.iconst 1, 1) := dk_4 (dk_at dksJ33_node_1 21 rfl rfl)
theorem dJ33_node_45 : decode cJ33_node 45 = .ok (.isub, 1) := dk_100 (dk_at dksJ33_node_1 22 rfl rfl)
theorem dJ33_node_46 : decode cJ33_node 46 = .ok (.istore_n 3, 1) := dk_62 (dk_at dksJ33_node_1 23 rfl rfl)
theorem dJ33_node_47 : decode cJ33_node 47 = .ok (.iload_n 3, 1) := dk_29 (dk_at dksJ33_node_2 0 rfl rfl)
theorem dJ33_node_48 : decode cJ33_node 48 = .ok (.iload_n 1, 1) := dk_27 (dk_at dksJ33_node_2 1 rfl rfl)
theorem dJ33_node_49 : decode cJ33_node 49 = .ok (.if_icmp .le 14, 3) := dk_164 0 14 (dk_at dksJ33_node_2 2 rfl rfl)
theorem dJ33_node_52 : decode cJ33_node 52 = .ok (.aload_n 2, 1) := dk_44 (dk_at dksJ33_node_2 5 rfl rfl)
theorem dJ33_node_53 : decode cJ33_node 53 = .ok (.getfield 30, 3) := dk_180 0 30 (dk_at dksJ33_node_2 6 rfl rfl)
theorem dJ33_node_56 : decode cJ33_node 56 = .ok (.astore_n 2, 1) := dk_77 (dk_at dksJ33_node_2 9 rfl rfl)
theorem dJ33_node_57 : decode cJ33_node 57 = .ok (.iinc 3 (-1), 3) := dk_132 3 255 (dk_at dksJ33_node_2 10 rfl rfl)
theorem dJ33_node_60 : decode cJ33_node 60 = .ok (.goto (-13), 3) := dk_167 255 243 (dk_at dksJ33_node_2 13 rfl rfl)
theorem dJ33_node_63 : decode cJ33_node 63 = .ok (.aload_n 2, 1) := dk_44 (dk_at dksJ33_node_2 16 rfl rfl)
theorem dJ33_node_64 : decode cJ33_node 64 = .ok (.areturn, 1) := dk_176 (dk_at dksJ33_node_2 17 rfl rfl)
abbrev cJ33_init : ByteArray := prog_64_method_1_code
def yJ33_init : MethodName := ⟨RJ33, "<init>", "()V"⟩
def dkwJ33_init_0 : List UInt8 := [42, 183, 0, 1, 42, 3, 181, 0, 7, 177]
abbrev dktJ33_init_0 : List UInt8 := dkwJ33_init_0 ++ []
theorem dksJ33_init_0 : cJ33_init.data.toList.drop 0 = dktJ33_init_0 := by decide +kernel
theorem dJ33_init_0 : decode cJ33_init 0 = .ok (.aload_n 0, 1) := dk_42 (dk_at dksJ33_init_0 0 rfl rfl)
theorem dJ33_init_1 : decode cJ33_init 1 = .ok (.invokespecial 1, 3) := dk_183 0 1 (dk_at dksJ33_init_0 1 rfl rfl)
theorem dJ33_init_4 : decode cJ33_init 4 = .ok (.aload_n 0, 1) := dk_42 (dk_at dksJ33_init_0 4 rfl rfl)
theorem dJ33_init_5 : decode cJ33_init 5 = .ok (.iconst 0, 1) := dk_3 (dk_at dksJ33_init_0 5 rfl rfl)
theorem dJ33_init_6 : decode cJ33_init 6 = .ok (.putfield 7, 3) := dk_181 0 7 (dk_at dksJ33_init_0 6 rfl rfl)
theorem dJ33_init_9 : decode cJ33_init 9 = .ok (.return_, 1) := dk_177 (dk_at dksJ33_init_0 9 rfl rfl)
abbrev cJ33_listIterator : ByteArray := prog_64_method_49_code
def yJ33_listIterator : MethodName := ⟨RJ33, "listIterator", "(I)Ljava/util/ListIterator;"⟩
def dkwJ33_listIterator_0 : List UInt8 := [42, 27, 182, 0, 76, 187, 0, 150, 89, 42, 27, 183, 0, 152, 176]
abbrev dktJ33_listIterator_0 : List UInt8 := dkwJ33_listIterator_0 ++ []
theorem dksJ33_listIterator_0 : cJ33_listIterator.data.toList.drop 0 = dktJ33_listIterator_0 := by decide +kernel
theorem dJ33_listIterator_0 : decode cJ33_listIterator 0 = .ok (.aload_n 0, 1) := dk_42 (dk_at dksJ33_listIterator_0 0 rfl rfl)
theorem dJ33_listIterator_1 : decode cJ33_listIterator 1 = .ok (.iload_n 1, 1) := dk_27 (dk_at dksJ33_listIterator_0 1 rfl rfl)
theorem dJ33_listIterator_2 : decode cJ33_listIterator 2 = .ok (.invokevirtual 76, 3) := dk_182 0 76 (dk_at dksJ33_listIterator_0 2 rfl rfl)
theorem dJ33_listIterator_5 : decode cJ33_listIterator 5 = .ok (.new 150, 3) := dk_187 0 150 (dk_at dksJ33_listIterator_0 5 rfl rfl)
theorem dJ33_listIterator_8 : decode cJ33_listIterator 8 = .ok (.dup, 1) := dk_89 (dk_at dksJ33_listIterator_0 8 rfl rfl)
theorem dJ33_listIterator_9 : decode cJ33_listIterator 9 = .ok (.aload_n 0, 1) := dk_42 (dk_at dksJ33_listIterator_0 9 rfl rfl)
theorem dJ33_listIterator_10 : decode cJ33_listIterator 10 = .ok (.iload_n 1, 1) := dk_27 (dk_at dksJ33_listIterator_0 10 rfl rfl)
theorem dJ33_listIterator_11 : decode cJ33_listIterator 11 = .ok (.invokespecial 152, 3) := dk_183 0 152 (dk_at dksJ33_listIterator_0 11 rfl rfl)
theorem dJ33_listIterator_14 : decode cJ33_listIterator 14 = .ok (.areturn, 1) := dk_176 (dk_at dksJ33_listIterator_0 14 rfl rfl)
abbrev cJ33_checkPositionIndex : ByteArray := prog_64_method_30_code
def yJ33_checkPositionIndex : MethodName := ⟨RJ33, "checkPositionIndex", "(I)V"⟩
def dkwJ33_checkPositionIndex_0 : List UInt8 := [42, 27, 182, 0, 128, 154, 0, 16, 187, 0, 119, 89, 42, 27, 182, 0, 121, 183, 0, 125, 191, 177]
abbrev dktJ33_checkPositionIndex_0 : List UInt8 := dkwJ33_checkPositionIndex_0 ++ []
theorem dksJ33_checkPositionIndex_0 : cJ33_checkPositionIndex.data.toList.drop 0 = dktJ33_checkPositionIndex_0 := by decide +kernel
theorem dJ33_checkPositionIndex_0 : decode cJ33_checkPositionIndex 0 = .ok (.aload_n 0, 1) := dk_42 (dk_at dksJ33_checkPositionIndex_0 0 rfl rfl)
theorem dJ33_checkPositionIndex_1 : decode cJ33_checkPositionIndex 1 = .ok (.iload_n 1, 1) := dk_27 (dk_at dksJ33_checkPositionIndex_0 1 rfl rfl)
theorem dJ33_checkPositionIndex_2 : decode cJ33_checkPositionIndex 2 = .ok (.invokevirtual 128, 3) := dk_182 0 128 (dk_at dksJ33_checkPositionIndex_0 2 rfl rfl)
theorem dJ33_checkPositionIndex_5 : decode cJ33_checkPositionIndex 5 = .ok (.ifCond .ne 16, 3) := dk_154 0 16 (dk_at dksJ33_checkPositionIndex_0 5 rfl rfl)
theorem dJ33_checkPositionIndex_8 : decode cJ33_checkPositionIndex 8 = .ok (.new 119, 3) := dk_187 0 119 (dk_at dksJ33_checkPositionIndex_0 8 rfl rfl)
theorem dJ33_checkPositionIndex_11 : decode cJ33_checkPositionIndex 11 = .ok (.dup, 1) := dk_89 (dk_at dksJ33_checkPositionIndex_0 11 rfl rfl)
theorem dJ33_checkPositionIndex_12 : decode cJ33_checkPositionIndex 12 = .ok (.aload_n 0, 1) := dk_42 (dk_at dksJ33_checkPositionIndex_0 12 rfl rfl)
theorem dJ33_checkPositionIndex_13 : decode cJ33_checkPositionIndex 13 = .ok (.iload_n 1, 1) := dk_27 (dk_at dksJ33_checkPositionIndex_0 13 rfl rfl)
theorem dJ33_checkPositionIndex_14 : decode cJ33_checkPositionIndex 14 = .ok (.invokevirtual 121, 3) := dk_182 0 121 (dk_at dksJ33_checkPositionIndex_0 14 rfl rfl)
theorem dJ33_checkPositionIndex_17 : decode cJ33_checkPositionIndex 17 = .ok (.invokespecial 125, 3) := dk_183 0 125 (dk_at dksJ33_checkPositionIndex_0 17 rfl rfl)
theorem dJ33_checkPositionIndex_20 : decode cJ33_checkPositionIndex 20 = .ok (.athrow, 1) := dk_191 (dk_at dksJ33_checkPositionIndex_0 20 rfl rfl)
theorem dJ33_checkPositionIndex_21 : decode cJ33_checkPositionIndex 21 = .ok (.return_, 1) := dk_177 (dk_at dksJ33_checkPositionIndex_0 21 rfl rfl)
abbrev cJ33_isPositionIndex : ByteArray := prog_64_method_27_code
def yJ33_isPositionIndex : MethodName := ⟨RJ33, "isPositionIndex", "(I)Z"⟩
def dkwJ33_isPositionIndex_0 : List UInt8 := [27, 155, 0, 15, 27, 42, 180, 0, 7, 163, 0, 7, 4, 167, 0, 4, 3, 172]
abbrev dktJ33_isPositionIndex_0 : List UInt8 := dkwJ33_isPositionIndex_0 ++ []
theorem dksJ33_isPositionIndex_0 : cJ33_isPositionIndex.data.toList.drop 0 = dktJ33_isPositionIndex_0 := by decide +kernel
theorem dJ33_isPositionIndex_0 : decode cJ33_isPositionIndex 0 = .ok (.iload_n 1, 1) := dk_27 (dk_at dksJ33_isPositionIndex_0 0 rfl rfl)
theorem dJ33_isPositionIndex_1 : decode cJ33_isPositionIndex 1 = .ok (.ifCond .lt 15, 3) := dk_155 0 15 (dk_at dksJ33_isPositionIndex_0 1 rfl rfl)
theorem dJ33_isPositionIndex_4 : decode cJ33_isPositionIndex 4 = .ok (.iload_n 1, 1) := dk_27 (dk_at dksJ33_isPositionIndex_0 4 rfl rfl)
theorem dJ33_isPositionIndex_5 : decode cJ33_isPositionIndex 5 = .ok (.aload_n 0, 1) := dk_42 (dk_at dksJ33_isPositionIndex_0 5 rfl rfl)
theorem dJ33_isPositionIndex_6 : decode cJ33_isPositionIndex 6 = .ok (.getfield 7, 3) := dk_180 0 7 (dk_at dksJ33_isPositionIndex_0 6 rfl rfl)
theorem dJ33_isPositionIndex_9 : decode cJ33_isPositionIndex 9 = .ok (.if_icmp .gt 7, 3) := dk_163 0 7 (dk_at dksJ33_isPositionIndex_0 9 rfl rfl)
theorem dJ33_isPositionIndex_12 : decode cJ33_isPositionIndex 12 = .ok (.iconst 1, 1) := dk_4 (dk_at dksJ33_isPositionIndex_0 12 rfl rfl)
theorem dJ33_isPositionIndex_13 : decode cJ33_isPositionIndex 13 = .ok (.goto 4, 3) := dk_167 0 4 (dk_at dksJ33_isPositionIndex_0 13 rfl rfl)
theorem dJ33_isPositionIndex_16 : decode cJ33_isPositionIndex 16 = .ok (.iconst 0, 1) := dk_3 (dk_at dksJ33_isPositionIndex_0 16 rfl rfl)
theorem dJ33_isPositionIndex_17 : decode cJ33_isPositionIndex 17 = .ok (.ireturn, 1) := dk_172 (dk_at dksJ33_isPositionIndex_0 17 rfl rfl)
abbrev cJ33_add_2 : ByteArray := prog_64_method_24_code
def yJ33_add_2 : MethodName := ⟨RJ33, "add", "(ILjava/lang/Object;)V"⟩
def dkwJ33_add_2_1 : List UInt8 := [27, 182, 0, 86, 182, 0, 93, 177]
abbrev dktJ33_add_2_1 : List UInt8 := dkwJ33_add_2_1 ++ []
def dkwJ33_add_2_0 : List UInt8 := [42, 27, 182, 0, 76, 27, 42, 180, 0, 7, 160, 0, 11, 42, 44, 182, 0, 57, 167, 0, 13, 42, 44, 42]
abbrev dktJ33_add_2_0 : List UInt8 := dkwJ33_add_2_0 ++ dktJ33_add_2_1
theorem dksJ33_add_2_0 : cJ33_add_2.data.toList.drop 0 = dktJ33_add_2_0 := by decide +kernel
theorem dksJ33_add_2_1 : cJ33_add_2.data.toList.drop 24 = dktJ33_add_2_1 := dk_seg dksJ33_add_2_0 24 rfl rfl
theorem dJ33_add_2_0 : decode cJ33_add_2 0 = .ok (.aload_n 0, 1) := dk_42 (dk_at dksJ33_add_2_0 0 rfl rfl)
theorem dJ33_add_2_1 : decode cJ33_add_2 1 = .ok (.iload_n 1, 1) := dk_27 (dk_at dksJ33_add_2_0 1 rfl rfl)
theorem dJ33_add_2_2 : decode cJ33_add_2 2 = .ok (.invokevirtual 76, 3) := dk_182 0 76 (dk_at dksJ33_add_2_0 2 rfl rfl)
theorem dJ33_add_2_5 : decode cJ33_add_2 5 = .ok (.iload_n 1, 1) := dk_27 (dk_at dksJ33_add_2_0 5 rfl rfl)
theorem dJ33_add_2_6 : decode cJ33_add_2 6 = .ok (.aload_n 0, 1) := dk_42 (dk_at dksJ33_add_2_0 6 rfl rfl)
theorem dJ33_add_2_7 : decode cJ33_add_2 7 = .ok (.getfield 7, 3) := dk_180 0 7 (dk_at dksJ33_add_2_0 7 rfl rfl)
theorem dJ33_add_2_10 : decode cJ33_add_2 10 = .ok (.if_icmp .ne 11, 3) := dk_160 0 11 (dk_at dksJ33_add_2_0 10 rfl rfl)
theorem dJ33_add_2_13 : decode cJ33_add_2 13 = .ok (.aload_n 0, 1) := dk_42 (dk_at dksJ33_add_2_0 13 rfl rfl)
theorem dJ33_add_2_14 : decode cJ33_add_2 14 = .ok (.aload_n 2, 1) := dk_44 (dk_at dksJ33_add_2_0 14 rfl rfl)
theorem dJ33_add_2_15 : decode cJ33_add_2 15 = .ok (.invokevirtual 57, 3) := dk_182 0 57 (dk_at dksJ33_add_2_0 15 rfl rfl)
theorem dJ33_add_2_18 : decode cJ33_add_2 18 = .ok (.goto 13, 3) := dk_167 0 13 (dk_at dksJ33_add_2_0 18 rfl rfl)
theorem dJ33_add_2_21 : decode cJ33_add_2 21 = .ok (.aload_n 0, 1) := dk_42 (dk_at dksJ33_add_2_0 21 rfl rfl)
theorem dJ33_add_2_22 : decode cJ33_add_2 22 = .ok (.aload_n 2, 1) := dk_44 (dk_at dksJ33_add_2_0 22 rfl rfl)
theorem dJ33_add_2_23 : decode cJ33_add_2 23 = .ok (.aload_n 0, 1) := dk_42 (dk_at dksJ33_add_2_0 23 rfl rfl)
theorem dJ33_add_2_24 : decode cJ33_add_2 24 = .ok (.iload_n 1, 1) := dk_27 (dk_at dksJ33_add_2_1 0 rfl rfl)
theorem dJ33_add_2_25 : decode cJ33_add_2 25 = .ok (.invokevirtual 86, 3) := dk_182 0 86 (dk_at dksJ33_add_2_1 1 rfl rfl)
theorem dJ33_add_2_28 : decode cJ33_add_2 28 = .ok (.invokevirtual 93, 3) := dk_182 0 93 (dk_at dksJ33_add_2_1 4 rfl rfl)
theorem dJ33_add_2_31 : decode cJ33_add_2 31 = .ok (.return_, 1) := dk_177 (dk_at dksJ33_add_2_1 7 rfl rfl)
abbrev cJ33_linkBefore : ByteArray := prog_64_method_5_code
def yJ33_linkBefore : MethodName := ⟨RJ33, "linkBefore", "(Ljava/lang/Object;Ljava/util/LinkedList$Node;)V"⟩
def dkwJ33_linkBefore_2 : List UInt8 := [96, 181, 0, 7, 42, 89, 180, 0, 33, 4, 96, 181, 0, 33, 177]
abbrev dktJ33_linkBefore_2 : List UInt8 := dkwJ33_linkBefore_2 ++ []
def dkwJ33_linkBefore_1 : List UInt8 := [199, 0, 12, 42, 25, 4, 181, 0, 18, 167, 0, 9, 45, 25, 4, 181, 0, 36, 42, 89, 180, 0, 7, 4]
abbrev dktJ33_linkBefore_1 : List UInt8 := dkwJ33_linkBefore_1 ++ dktJ33_linkBefore_2
def dkwJ33_linkBefore_0 : List UInt8 := [44, 180, 0, 30, 78, 187, 0, 22, 89, 45, 43, 44, 183, 0, 24, 58, 4, 44, 25, 4, 181, 0, 30, 45]
abbrev dktJ33_linkBefore_0 : List UInt8 := dkwJ33_linkBefore_0 ++ dktJ33_linkBefore_1
theorem dksJ33_linkBefore_0 : cJ33_linkBefore.data.toList.drop 0 = dktJ33_linkBefore_0 := by decide +kernel
theorem dksJ33_linkBefore_1 : cJ33_linkBefore.data.toList.drop 24 = dktJ33_linkBefore_1 := dk_seg dksJ33_linkBefore_0 24 rfl rfl
theorem dksJ33_linkBefore_2 : cJ33_linkBefore.data.toList.drop 48 = dktJ33_linkBefore_2 := dk_seg dksJ33_linkBefore_1 24 rfl rfl
theorem dJ33_linkBefore_0 : decode cJ33_linkBefore 0 = .ok (.aload_n 2, 1) := dk_44 (dk_at dksJ33_linkBefore_0 0 rfl rfl)
theorem dJ33_linkBefore_1 : decode cJ33_linkBefore 1 = .ok (.getfield 30, 3) := dk_180 0 30 (dk_at dksJ33_linkBefore_0 1 rfl rfl)
theorem dJ33_linkBefore_4 : decode cJ33_linkBefore 4 = .ok (.astore_n 3, 1) := dk_78 (dk_at dksJ33_linkBefore_0 4 rfl rfl)
theorem dJ33_linkBefore_5 : decode cJ33_linkBefore 5 = .ok (.new 22, 3) := dk_187 0 22 (dk_at dksJ33_linkBefore_0 5 rfl rfl)
theorem dJ33_linkBefore_8 : decode cJ33_linkBefore 8 = .ok (.dup, 1) := dk_89 (dk_at dksJ33_linkBefore_0 8 rfl rfl)
theorem dJ33_linkBefore_9 : decode cJ33_linkBefore 9 = .ok (.aload_n 3, 1) := dk_45 (dk_at dksJ33_linkBefore_0 9 rfl rfl)
theorem dJ33_linkBefore_10 : decode cJ33_linkBefore 10 = .ok (.aload_n 1, 1) := dk_43 (dk_at dksJ33_linkBefore_0 10 rfl rfl)
theorem dJ33_linkBefore_11 : decode cJ33_linkBefore 11 = .ok (.aload_n 2, 1) := dk_44 (dk_at dksJ33_linkBefore_0 11 rfl rfl)
theorem dJ33_linkBefore_12 : decode cJ33_linkBefore 12 = .ok (.invokespecial 24, 3) := dk_183 0 24 (dk_at dksJ33_linkBefore_0 12 rfl rfl)
theorem dJ33_linkBefore_15 : decode cJ33_linkBefore 15 = .ok (.astore 4, 2) := dk_58 4 (dk_at dksJ33_linkBefore_0 15 rfl rfl)
theorem dJ33_linkBefore_17 : decode cJ33_linkBefore 17 = .ok (.aload_n 2, 1) := dk_44 (dk_at dksJ33_linkBefore_0 17 rfl rfl)
theorem dJ33_linkBefore_18 : decode cJ33_linkBefore 18 = .ok (.aload 4, 2) := dk_25 4 (dk_at dksJ33_linkBefore_0 18 rfl rfl)
theorem dJ33_linkBefore_20 : decode cJ33_linkBefore 20 = .ok (.putfield 30, 3) := dk_181 0 30 (dk_at dksJ33_linkBefore_0 20 rfl rfl)
theorem dJ33_linkBefore_23 : decode cJ33_linkBefore 23 = .ok (.aload_n 3, 1) := dk_45 (dk_at dksJ33_linkBefore_0 23 rfl rfl)
theorem dJ33_linkBefore_24 : decode cJ33_linkBefore 24 = .ok (.ifnonnull 12, 3) := dk_199 0 12 (dk_at dksJ33_linkBefore_1 0 rfl rfl)
theorem dJ33_linkBefore_27 : decode cJ33_linkBefore 27 = .ok (.aload_n 0, 1) := dk_42 (dk_at dksJ33_linkBefore_1 3 rfl rfl)
theorem dJ33_linkBefore_28 : decode cJ33_linkBefore 28 = .ok (.aload 4, 2) := dk_25 4 (dk_at dksJ33_linkBefore_1 4 rfl rfl)
theorem dJ33_linkBefore_30 : decode cJ33_linkBefore 30 = .ok (.putfield 18, 3) := dk_181 0 18 (dk_at dksJ33_linkBefore_1 6 rfl rfl)
theorem dJ33_linkBefore_33 : decode cJ33_linkBefore 33 = .ok (.goto 9, 3) := dk_167 0 9 (dk_at dksJ33_linkBefore_1 9 rfl rfl)
theorem dJ33_linkBefore_36 : decode cJ33_linkBefore 36 = .ok (.aload_n 3, 1) := dk_45 (dk_at dksJ33_linkBefore_1 12 rfl rfl)
theorem dJ33_linkBefore_37 : decode cJ33_linkBefore 37 = .ok (.aload 4, 2) := dk_25 4 (dk_at dksJ33_linkBefore_1 13 rfl rfl)
theorem dJ33_linkBefore_39 : decode cJ33_linkBefore 39 = .ok (.putfield 36, 3) := dk_181 0 36 (dk_at dksJ33_linkBefore_1 15 rfl rfl)
theorem dJ33_linkBefore_42 : decode cJ33_linkBefore 42 = .ok (.aload_n 0, 1) := dk_42 (dk_at dksJ33_linkBefore_1 18 rfl rfl)
theorem dJ33_linkBefore_43 : decode cJ33_linkBefore 43 = .ok (.dup, 1) := dk_89 (dk_at dksJ33_linkBefore_1 19 rfl rfl)
theorem dJ33_linkBefore_44 : decode cJ33_linkBefore 44 = .ok (.getfield 7, 3) := dk_180 0 7 (dk_at dksJ33_linkBefore_1 20 rfl rfl)
theorem dJ33_linkBefore_47 : decode cJ33_linkBefore 47 = .ok (.iconst 1, 1) := dk_4 (dk_at dksJ33_linkBefore_1 23 rfl rfl)
theorem dJ33_linkBefore_48 : decode cJ33_linkBefore 48 = .ok (.iadd, 1) := dk_96 (dk_at dksJ33_linkBefore_2 0 rfl rfl)
theorem dJ33_linkBefore_49 : decode cJ33_linkBefore 49 = .ok (.putfield 7, 3) := dk_181 0 7 (dk_at dksJ33_linkBefore_2 1 rfl rfl)
theorem dJ33_linkBefore_52 : decode cJ33_linkBefore 52 = .ok (.aload_n 0, 1) := dk_42 (dk_at dksJ33_linkBefore_2 4 rfl rfl)
theorem dJ33_linkBefore_53 : decode cJ33_linkBefore 53 = .ok (.dup, 1) := dk_89 (dk_at dksJ33_linkBefore_2 5 rfl rfl)
theorem dJ33_linkBefore_54 : decode cJ33_linkBefore 54 = .ok (.getfield 33, 3) := dk_180 0 33 (dk_at dksJ33_linkBefore_2 6 rfl rfl)
theorem dJ33_linkBefore_57 : decode cJ33_linkBefore 57 = .ok (.iconst 1, 1) := dk_4 (dk_at dksJ33_linkBefore_2 9 rfl rfl)
theorem dJ33_linkBefore_58 : decode cJ33_linkBefore 58 = .ok (.iadd, 1) := dk_96 (dk_at dksJ33_linkBefore_2 10 rfl rfl)
theorem dJ33_linkBefore_59 : decode cJ33_linkBefore 59 = .ok (.putfield 33, 3) := dk_181 0 33 (dk_at dksJ33_linkBefore_2 11 rfl rfl)
theorem dJ33_linkBefore_62 : decode cJ33_linkBefore 62 = .ok (.return_, 1) := dk_177 (dk_at dksJ33_linkBefore_2 14 rfl rfl)

/-! decode rows: J34.java_util_AbstractList_Itr.lean.txt -/
set_option maxRecDepth 100000
abbrev cJ34_hasNext : ByteArray := prog_46_method_2_code
def yJ34_hasNext : MethodName := ⟨RJ34, "hasNext", "()Z"⟩
def dkwJ34_hasNext_0 : List UInt8 := [42, 180, 0, 13, 42, 180, 0, 1, 182, 0, 28, 159, 0, 7, 4, 167, 0, 4, 3, 172]
abbrev dktJ34_hasNext_0 : List UInt8 := dkwJ34_hasNext_0 ++ []
theorem dksJ34_hasNext_0 : cJ34_hasNext.data.toList.drop 0 = dktJ34_hasNext_0 := by decide +kernel
theorem dJ34_hasNext_0 : decode cJ34_hasNext 0 = .ok (.aload_n 0, 1) := dk_42 (dk_at dksJ34_hasNext_0 0 rfl rfl)
theorem dJ34_hasNext_1 : decode cJ34_hasNext 1 = .ok (.getfield 13, 3) := dk_180 0 13 (dk_at dksJ34_hasNext_0 1 rfl rfl)
theorem dJ34_hasNext_4 : decode cJ34_hasNext 4 = .ok (.aload_n 0, 1) := dk_42 (dk_at dksJ34_hasNext_0 4 rfl rfl)
theorem dJ34_hasNext_5 : decode cJ34_hasNext 5 = .ok (.getfield 1, 3) := dk_180 0 1 (dk_at dksJ34_hasNext_0 5 rfl rfl)
theorem dJ34_hasNext_8 : decode cJ34_hasNext 8 = .ok (.invokevirtual 28, 3) := dk_182 0 28 (dk_at dksJ34_hasNext_0 8 rfl rfl)
theorem dJ34_hasNext_11 : decode cJ34_hasNext 11 = .ok (.if_icmp .eq 7, 3) := dk_159 0 7 (dk_at dksJ34_hasNext_0 11 rfl rfl)
theorem dJ34_hasNext_14 : decode cJ34_hasNext 14 = .ok (.iconst 1, 1) := dk_4 (dk_at dksJ34_hasNext_0 14 rfl rfl)
theorem dJ34_hasNext_15 : decode cJ34_hasNext 15 = .ok (.goto 4, 3) := dk_167 0 4 (dk_at dksJ34_hasNext_0 15 rfl rfl)
theorem dJ34_hasNext_18 : decode cJ34_hasNext 18 = .ok (.iconst 0, 1) := dk_3 (dk_at dksJ34_hasNext_0 18 rfl rfl)
theorem dJ34_hasNext_19 : decode cJ34_hasNext 19 = .ok (.ireturn, 1) := dk_172 (dk_at dksJ34_hasNext_0 19 rfl rfl)
abbrev cJ34_next : ByteArray := prog_46_method_3_code
def yJ34_next : MethodName := ⟨RJ34, "next", "()Ljava/lang/Object;"⟩
def dkwJ34_next_1 : List UInt8 := [27, 4, 96, 181, 0, 13, 44, 176, 76, 42, 182, 0, 32, 187, 0, 41, 89, 43, 183, 0, 43, 191]
abbrev dktJ34_next_1 : List UInt8 := dkwJ34_next_1 ++ []
def dkwJ34_next_0 : List UInt8 := [42, 182, 0, 32, 42, 180, 0, 13, 60, 42, 180, 0, 1, 27, 182, 0, 35, 77, 42, 27, 181, 0, 17, 42]
abbrev dktJ34_next_0 : List UInt8 := dkwJ34_next_0 ++ dktJ34_next_1
theorem dksJ34_next_0 : cJ34_next.data.toList.drop 0 = dktJ34_next_0 := by decide +kernel
theorem dksJ34_next_1 : cJ34_next.data.toList.drop 24 = dktJ34_next_1 := dk_seg dksJ34_next_0 24 rfl rfl
theorem dJ34_next_0 : decode cJ34_next 0 = .ok (.aload_n 0, 1) := dk_42 (dk_at dksJ34_next_0 0 rfl rfl)
theorem dJ34_next_1 : decode cJ34_next 1 = .ok (.invokevirtual 32, 3) := dk_182 0 32 (dk_at dksJ34_next_0 1 rfl rfl)
theorem dJ34_next_4 : decode cJ34_next 4 = .ok (.aload_n 0, 1) := dk_42 (dk_at dksJ34_next_0 4 rfl rfl)
theorem dJ34_next_5 : decode cJ34_next 5 = .ok (.getfield 13, 3) := dk_180 0 13 (dk_at dksJ34_next_0 5 rfl rfl)
theorem dJ34_next_8 : decode cJ34_next 8 = .ok (.istore_n 1, 1) := dk_60 (dk_at dksJ34_next_0 8 rfl rfl)
theorem dJ34_next_9 : decode cJ34_next 9 = .ok (.aload_n 0, 1) := dk_42 (dk_at dksJ34_next_0 9 rfl rfl)
theorem dJ34_next_10 : decode cJ34_next 10 = .ok (.getfield 1, 3) := dk_180 0 1 (dk_at dksJ34_next_0 10 rfl rfl)
theorem dJ34_next_13 : decode cJ34_next 13 = .ok (.iload_n 1, 1) := dk_27 (dk_at dksJ34_next_0 13 rfl rfl)
theorem dJ34_next_14 : decode cJ34_next 14 = .ok (.invokevirtual 35, 3) := dk_182 0 35 (dk_at dksJ34_next_0 14 rfl rfl)
theorem dJ34_next_17 : decode cJ34_next 17 = .ok (.astore_n 2, 1) := dk_77 (dk_at dksJ34_next_0 17 rfl rfl)
theorem dJ34_next_18 : decode cJ34_next 18 = .ok (.aload_n 0, 1) := dk_42 (dk_at dksJ34_next_0 18 rfl rfl)
theorem dJ34_next_19 : decode cJ34_next 19 = .ok (.iload_n 1, 1) := dk_27 (dk_at dksJ34_next_0 19 rfl rfl)
theorem dJ34_next_20 : decode cJ34_next 20 = .ok (.putfield 17, 3) := dk_181 0 17 (dk_at dksJ34_next_0 20 rfl rfl)
theorem dJ34_next_23 : decode cJ34_next 23 = .ok (.aload_n 0, 1) := dk_42 (dk_at dksJ34_next_0 23 rfl rfl)
theorem dJ34_next_24 : decode cJ34_next 24 = .ok (.iload_n 1, 1) := dk_27 (dk_at dksJ34_next_1 0 rfl rfl)
theorem dJ34_next_25 : decode cJ34_next 25 = .ok (.iconst 1, 1) := dk_4 (dk_at dksJ34_next_1 1 rfl rfl)
theorem dJ34_next_26 : decode cJ34_next 26 = .ok (.iadd, 1) := dk_96 (dk_at dksJ34_next_1 2 rfl rfl)
theorem dJ34_next_27 : decode cJ34_next 27 = .ok (.putfield 13, 3) := dk_181 0 13 (dk_at dksJ34_next_1 3 rfl rfl)
theorem dJ34_next_30 : decode cJ34_next 30 = .ok (.aload_n 2, 1) := dk_44 (dk_at dksJ34_next_1 6 rfl rfl)
theorem dJ34_next_31 : decode cJ34_next 31 = .ok (.areturn, 1) := dk_176 (dk_at dksJ34_next_1 7 rfl rfl)
theorem dJ34_next_32 : decode cJ34_next 32 = .ok (.astore_n 1, 1) := dk_76 (dk_at dksJ34_next_1 8 rfl rfl)
theorem dJ34_next_33 : decode cJ34_next 33 = .ok (.aload_n 0, 1) := dk_42 (dk_at dksJ34_next_1 9 rfl rfl)
theorem dJ34_next_34 : decode cJ34_next 34 = .ok (.invokevirtual 32, 3) := dk_182 0 32 (dk_at dksJ34_next_1 10 rfl rfl)
theorem dJ34_next_37 : decode cJ34_next 37 = .ok (.new 41, 3) := dk_187 0 41 (dk_at dksJ34_next_1 13 rfl rfl)
theorem dJ34_next_40 : decode cJ34_next 40 = .ok (.dup, 1) := dk_89 (dk_at dksJ34_next_1 16 rfl rfl)
theorem dJ34_next_41 : decode cJ34_next 41 = .ok (.aload_n 1, 1) := dk_43 (dk_at dksJ34_next_1 17 rfl rfl)
theorem dJ34_next_42 : decode cJ34_next 42 = .ok (.invokespecial 43, 3) := dk_183 0 43 (dk_at dksJ34_next_1 18 rfl rfl)
theorem dJ34_next_45 : decode cJ34_next 45 = .ok (.athrow, 1) := dk_191 (dk_at dksJ34_next_1 21 rfl rfl)
abbrev cJ34_checkForComodification : ByteArray := prog_46_method_5_code
def yJ34_checkForComodification : MethodName := ⟨RJ34, "checkForComodification", "()V"⟩
def dkwJ34_checkForComodification_0 : List UInt8 := [42, 180, 0, 1, 180, 0, 20, 42, 180, 0, 25, 159, 0, 11, 187, 0, 52, 89, 183, 0, 54, 191, 177]
abbrev dktJ34_checkForComodification_0 : List UInt8 := dkwJ34_checkForComodification_0 ++ []
theorem dksJ34_checkForComodification_0 : cJ34_checkForComodification.data.toList.drop 0 = dktJ34_checkForComodification_0 := by decide +kernel
theorem dJ34_checkForComodification_0 : decode cJ34_checkForComodification 0 = .ok (.aload_n 0, 1) := dk_42 (dk_at dksJ34_checkForComodification_0 0 rfl rfl)
theorem dJ34_checkForComodification_1 : decode cJ34_checkForComodification 1 = .ok (.getfield 1, 3) := dk_180 0 1 (dk_at dksJ34_checkForComodification_0 1 rfl rfl)
theorem dJ34_checkForComodification_4 : decode cJ34_checkForComodification 4 = .ok (.getfield 20, 3) := dk_180 0 20 (dk_at dksJ34_checkForComodification_0 4 rfl rfl)
theorem dJ34_checkForComodification_7 : decode cJ34_checkForComodification 7 = .ok (.aload_n 0, 1) := dk_42 (dk_at dksJ34_checkForComodification_0 7 rfl rfl)
theorem dJ34_checkForComodification_8 : decode cJ34_checkForComodification 8 = .ok (.getfield 25, 3) := dk_180 0 25 (dk_at dksJ34_checkForComodification_0 8 rfl rfl)
theorem dJ34_checkForComodification_11 : decode cJ34_checkForComodification 11 = .ok (.if_icmp .eq 11, 3) := dk_159 0 11 (dk_at dksJ34_checkForComodification_0 11 rfl rfl)
theorem dJ34_checkForComodification_14 : decode cJ34_checkForComodification 14 = .ok (.new 52, 3) := dk_187 0 52 (dk_at dksJ34_checkForComodification_0 14 rfl rfl)
theorem dJ34_checkForComodification_17 : decode cJ34_checkForComodification 17 = .ok (.dup, 1) := dk_89 (dk_at dksJ34_checkForComodification_0 17 rfl rfl)
theorem dJ34_checkForComodification_18 : decode cJ34_checkForComodification 18 = .ok (.invokespecial 54, 3) := dk_183 0 54 (dk_at dksJ34_checkForComodification_0 18 rfl rfl)
theorem dJ34_checkForComodification_21 : decode cJ34_checkForComodification 21 = .ok (.athrow, 1) := dk_191 (dk_at dksJ34_checkForComodification_0 21 rfl rfl)
theorem dJ34_checkForComodification_22 : decode cJ34_checkForComodification 22 = .ok (.return_, 1) := dk_177 (dk_at dksJ34_checkForComodification_0 22 rfl rfl)

/-! decode rows: J35.java_util_ArrayList_Itr.lean.txt -/
set_option maxRecDepth 100000
abbrev cJ35_init : ByteArray := prog_51_method_1_code
def yJ35_init : MethodName := ⟨RJ35, "<init>", "(Ljava/util/ArrayList;)V"⟩
def dkwJ35_init_1 : List UInt8 := [181, 0, 22, 177]
abbrev dktJ35_init_1 : List UInt8 := dkwJ35_init_1 ++ []
def dkwJ35_init_0 : List UInt8 := [42, 43, 181, 0, 1, 42, 183, 0, 7, 42, 2, 181, 0, 13, 42, 42, 180, 0, 1, 180, 0, 17]
abbrev dktJ35_init_0 : List UInt8 := dkwJ35_init_0 ++ dktJ35_init_1
theorem dksJ35_init_0 : cJ35_init.data.toList.drop 0 = dktJ35_init_0 := by decide +kernel
theorem dksJ35_init_1 : cJ35_init.data.toList.drop 22 = dktJ35_init_1 := dk_seg dksJ35_init_0 22 rfl rfl
theorem dJ35_init_0 : decode cJ35_init 0 = .ok (.aload_n 0, 1) := dk_42 (dk_at dksJ35_init_0 0 rfl rfl)
theorem dJ35_init_1 : decode cJ35_init 1 = .ok (.aload_n 1, 1) := dk_43 (dk_at dksJ35_init_0 1 rfl rfl)
theorem dJ35_init_2 : decode cJ35_init 2 = .ok (.putfield 1, 3) := dk_181 0 1 (dk_at dksJ35_init_0 2 rfl rfl)
theorem dJ35_init_5 : decode cJ35_init 5 = .ok (.aload_n 0, 1) := dk_42 (dk_at dksJ35_init_0 5 rfl rfl)
theorem dJ35_init_6 : decode cJ35_init 6 = .ok (.invokespecial 7, 3) := dk_183 0 7 (dk_at dksJ35_init_0 6 rfl rfl)
theorem dJ35_init_9 : decode cJ35_init 9 = .ok (.aload_n 0, 1) := dk_42 (dk_at dksJ35_init_0 9 rfl rfl)
theorem dJ35_init_10 : decode cJ35_init 10 = .ok (.iconst (-1), 1) := dk_2 (dk_at dksJ35_init_0 10 rfl rfl)
theorem dJ35_init_11 : decode cJ35_init 11 = .ok (.putfield 13, 3) := dk_181 0 13 (dk_at dksJ35_init_0 11 rfl rfl)
theorem dJ35_init_14 : decode cJ35_init 14 = .ok (.aload_n 0, 1) := dk_42 (dk_at dksJ35_init_0 14 rfl rfl)
theorem dJ35_init_15 : decode cJ35_init 15 = .ok (.aload_n 0, 1) := dk_42 (dk_at dksJ35_init_0 15 rfl rfl)
theorem dJ35_init_16 : decode cJ35_init 16 = .ok (.getfield 1, 3) := dk_180 0 1 (dk_at dksJ35_init_0 16 rfl rfl)
theorem dJ35_init_19 : decode cJ35_init 19 = .ok (.getfield 17, 3) := dk_180 0 17 (dk_at dksJ35_init_0 19 rfl rfl)
theorem dJ35_init_22 : decode cJ35_init 22 = .ok (.putfield 22, 3) := dk_181 0 22 (dk_at dksJ35_init_1 0 rfl rfl)
theorem dJ35_init_25 : decode cJ35_init 25 = .ok (.return_, 1) := dk_177 (dk_at dksJ35_init_1 3 rfl rfl)
abbrev cJ35_hasNext : ByteArray := prog_51_method_2_code
def yJ35_hasNext : MethodName := ⟨RJ35, "hasNext", "()Z"⟩
def dkwJ35_hasNext_0 : List UInt8 := [42, 180, 0, 25, 42, 180, 0, 1, 180, 0, 28, 159, 0, 7, 4, 167, 0, 4, 3, 172]
abbrev dktJ35_hasNext_0 : List UInt8 := dkwJ35_hasNext_0 ++ []
theorem dksJ35_hasNext_0 : cJ35_hasNext.data.toList.drop 0 = dktJ35_hasNext_0 := by decide +kernel
theorem dJ35_hasNext_0 : decode cJ35_hasNext 0 = .ok (.aload_n 0, 1) := dk_42 (dk_at dksJ35_hasNext_0 0 rfl rfl)
theorem dJ35_hasNext_1 : decode cJ35_hasNext 1 = .ok (.getfield 25, 3) := dk_180 0 25 (dk_at dksJ35_hasNext_0 1 rfl rfl)
theorem dJ35_hasNext_4 : decode cJ35_hasNext 4 = .ok (.aload_n 0, 1) := dk_42 (dk_at dksJ35_hasNext_0 4 rfl rfl)
theorem dJ35_hasNext_5 : decode cJ35_hasNext 5 = .ok (.getfield 1, 3) := dk_180 0 1 (dk_at dksJ35_hasNext_0 5 rfl rfl)
theorem dJ35_hasNext_8 : decode cJ35_hasNext 8 = .ok (.getfield 28, 3) := dk_180 0 28 (dk_at dksJ35_hasNext_0 8 rfl rfl)
theorem dJ35_hasNext_11 : decode cJ35_hasNext 11 = .ok (.if_icmp .eq 7, 3) := dk_159 0 7 (dk_at dksJ35_hasNext_0 11 rfl rfl)
theorem dJ35_hasNext_14 : decode cJ35_hasNext 14 = .ok (.iconst 1, 1) := dk_4 (dk_at dksJ35_hasNext_0 14 rfl rfl)
theorem dJ35_hasNext_15 : decode cJ35_hasNext 15 = .ok (.goto 4, 3) := dk_167 0 4 (dk_at dksJ35_hasNext_0 15 rfl rfl)
theorem dJ35_hasNext_18 : decode cJ35_hasNext 18 = .ok (.iconst 0, 1) := dk_3 (dk_at dksJ35_hasNext_0 18 rfl rfl)
theorem dJ35_hasNext_19 : decode cJ35_hasNext 19 = .ok (.ireturn, 1) := dk_172 (dk_at dksJ35_hasNext_0 19 rfl rfl)
abbrev cJ35_next : ByteArray := prog_51_method_3_code
def yJ35_next : MethodName := ⟨RJ35, "next", "()Ljava/lang/Object;"⟩
def dkwJ35_next_2 : List UInt8 := [183, 0, 43, 191, 42, 27, 4, 96, 181, 0, 25, 44, 42, 27, 90, 181, 0, 13, 50, 176]
abbrev dktJ35_next_2 : List UInt8 := dkwJ35_next_2 ++ []
def dkwJ35_next_1 : List UInt8 := [183, 0, 36, 191, 42, 180, 0, 1, 180, 0, 37, 77, 27, 44, 190, 161, 0, 11, 187, 0, 41, 89]
abbrev dktJ35_next_1 : List UInt8 := dkwJ35_next_1 ++ dktJ35_next_2
def dkwJ35_next_0 : List UInt8 := [42, 182, 0, 31, 42, 180, 0, 25, 60, 27, 42, 180, 0, 1, 180, 0, 28, 161, 0, 11, 187, 0, 34, 89]
abbrev dktJ35_next_0 : List UInt8 := dkwJ35_next_0 ++ dktJ35_next_1
theorem dksJ35_next_0 : cJ35_next.data.toList.drop 0 = dktJ35_next_0 := by decide +kernel
theorem dksJ35_next_1 : cJ35_next.data.toList.drop 24 = dktJ35_next_1 := dk_seg dksJ35_next_0 24 rfl rfl
theorem dksJ35_next_2 : cJ35_next.data.toList.drop 46 = dktJ35_next_2 := dk_seg dksJ35_next_1 22 rfl rfl
theorem dJ35_next_0 : decode cJ35_next 0 = .ok (.aload_n 0, 1) := dk_42 (dk_at dksJ35_next_0 0 rfl rfl)
theorem dJ35_next_1 : decode cJ35_next 1 = .ok (.invokevirtual 31, 3) := dk_182 0 31 (dk_at dksJ35_next_0 1 rfl rfl)
theorem dJ35_next_4 : decode cJ35_next 4 = .ok (.aload_n 0, 1) := dk_42 (dk_at dksJ35_next_0 4 rfl rfl)
theorem dJ35_next_5 : decode cJ35_next 5 = .ok (.getfield 25, 3) := dk_180 0 25 (dk_at dksJ35_next_0 5 rfl rfl)
theorem dJ35_next_8 : decode cJ35_next 8 = .ok (.istore_n 1, 1) := dk_60 (dk_at dksJ35_next_0 8 rfl rfl)
theorem dJ35_next_9 : decode cJ35_next 9 = .ok (.iload_n 1, 1) := dk_27 (dk_at dksJ35_next_0 9 rfl rfl)
theorem dJ35_next_10 : decode cJ35_next 10 = .ok (.aload_n 0, 1) := dk_42 (dk_at dksJ35_next_0 10 rfl rfl)
theorem dJ35_next_11 : decode cJ35_next 11 = .ok (.getfield 1, 3) := dk_180 0 1 (dk_at dksJ35_next_0 11 rfl rfl)
theorem dJ35_next_14 : decode cJ35_next 14 = .ok (.getfield 28, 3) := dk_180 0 28 (dk_at dksJ35_next_0 14 rfl rfl)
theorem dJ35_next_17 : decode cJ35_next 17 = .ok (.if_icmp .lt 11, 3) := dk_161 0 11 (dk_at dksJ35_next_0 17 rfl rfl)
theorem dJ35_next_20 : decode cJ35_next 20 = .ok (.new 34, 3) := dk_187 0 34 (dk_at dksJ35_next_0 20 rfl rfl)
theorem dJ35_next_23 : decode cJ35_next 23 = .ok (.dup, 1) := dk_89 (dk_at dksJ35_next_0 23 rfl rfl)
theorem dJ35_next_24 : decode cJ35_next 24 = .ok (.invokespecial 36, 3) := dk_183 0 36 (dk_at dksJ35_next_1 0 rfl rfl)
theorem dJ35_next_27 : decode cJ35_next 27 = .ok (.athrow, 1) := dk_191 (dk_at dksJ35_next_1 3 rfl rfl)
theorem dJ35_next_28 : decode cJ35_next 28 = .ok (.aload_n 0, 1) := dk_42 (dk_at dksJ35_next_1 4 rfl rfl)
theorem dJ35_next_29 : decode cJ35_next 29 = .ok (.getfield 1, 3) := dk_180 0 1 (dk_at dksJ35_next_1 5 rfl rfl)
theorem dJ35_next_32 : decode cJ35_next 32 = .ok (.getfield 37, 3) := dk_180 0 37 (dk_at dksJ35_next_1 8 rfl rfl)
theorem dJ35_next_35 : decode cJ35_next 35 = .ok (.astore_n 2, 1) := dk_77 (dk_at dksJ35_next_1 11 rfl rfl)
theorem dJ35_next_36 : decode cJ35_next 36 = .ok (.iload_n 1, 1) := dk_27 (dk_at dksJ35_next_1 12 rfl rfl)
theorem dJ35_next_37 : decode cJ35_next 37 = .ok (.aload_n 2, 1) := dk_44 (dk_at dksJ35_next_1 13 rfl rfl)
theorem dJ35_next_38 : decode cJ35_next 38 = .ok (.arraylength, 1) := dk_190 (dk_at dksJ35_next_1 14 rfl rfl)
theorem dJ35_next_39 : decode cJ35_next 39 = .ok (.if_icmp .lt 11, 3) := dk_161 0 11 (dk_at dksJ35_next_1 15 rfl rfl)
theorem dJ35_next_42 : decode cJ35_next 42 = .ok (.new 41, 3) := dk_187 0 41 (dk_at dksJ35_next_1 18 rfl rfl)
theorem dJ35_next_45 : decode cJ35_next 45 = .ok (.dup, 1) := dk_89 (dk_at dksJ35_next_1 21 rfl rfl)
theorem dJ35_next_46 : decode cJ35_next 46 = .ok (.invokespecial 43, 3) := dk_183 0 43 (dk_at dksJ35_next_2 0 rfl rfl)
theorem dJ35_next_49 : decode cJ35_next 49 = .ok (.athrow, 1) := dk_191 (dk_at dksJ35_next_2 3 rfl rfl)
theorem dJ35_next_50 : decode cJ35_next 50 = .ok (.aload_n 0, 1) := dk_42 (dk_at dksJ35_next_2 4 rfl rfl)
theorem dJ35_next_51 : decode cJ35_next 51 = .ok (.iload_n 1, 1) := dk_27 (dk_at dksJ35_next_2 5 rfl rfl)
theorem dJ35_next_52 : decode cJ35_next 52 = .ok (.iconst 1, 1) := dk_4 (dk_at dksJ35_next_2 6 rfl rfl)
theorem dJ35_next_53 : decode cJ35_next 53 = .ok (.iadd, 1) := dk_96 (dk_at dksJ35_next_2 7 rfl rfl)
theorem dJ35_next_54 : decode cJ35_next 54 = .ok (.putfield 25, 3) := dk_181 0 25 (dk_at dksJ35_next_2 8 rfl rfl)
theorem dJ35_next_57 : decode cJ35_next 57 = .ok (.aload_n 2, 1) := dk_44 (dk_at dksJ35_next_2 11 rfl rfl)
theorem dJ35_next_58 : decode cJ35_next 58 = .ok (.aload_n 0, 1) := dk_42 (dk_at dksJ35_next_2 12 rfl rfl)
theorem dJ35_next_59 : decode cJ35_next 59 = .ok (.iload_n 1, 1) := dk_27 (dk_at dksJ35_next_2 13 rfl rfl)
theorem dJ35_next_60 : decode cJ35_next 60 = .ok (.dup_x1, 1) := dk_90 (dk_at dksJ35_next_2 14 rfl rfl)
theorem dJ35_next_61 : decode cJ35_next 61 = .ok (.putfield 13, 3) := dk_181 0 13 (dk_at dksJ35_next_2 15 rfl rfl)
theorem dJ35_next_64 : decode cJ35_next 64 = .ok (.aaload, 1) := dk_50 (dk_at dksJ35_next_2 18 rfl rfl)
theorem dJ35_next_65 : decode cJ35_next 65 = .ok (.areturn, 1) := dk_176 (dk_at dksJ35_next_2 19 rfl rfl)
abbrev cJ35_checkForComodification : ByteArray := prog_51_method_6_code
def yJ35_checkForComodification : MethodName := ⟨RJ35, "checkForComodification", "()V"⟩
def dkwJ35_checkForComodification_0 : List UInt8 := [42, 180, 0, 1, 180, 0, 17, 42, 180, 0, 22, 159, 0, 11, 187, 0, 41, 89, 183, 0, 43, 191, 177]
abbrev dktJ35_checkForComodification_0 : List UInt8 := dkwJ35_checkForComodification_0 ++ []
theorem dksJ35_checkForComodification_0 : cJ35_checkForComodification.data.toList.drop 0 = dktJ35_checkForComodification_0 := by decide +kernel
theorem dJ35_checkForComodification_0 : decode cJ35_checkForComodification 0 = .ok (.aload_n 0, 1) := dk_42 (dk_at dksJ35_checkForComodification_0 0 rfl rfl)
theorem dJ35_checkForComodification_1 : decode cJ35_checkForComodification 1 = .ok (.getfield 1, 3) := dk_180 0 1 (dk_at dksJ35_checkForComodification_0 1 rfl rfl)
theorem dJ35_checkForComodification_4 : decode cJ35_checkForComodification 4 = .ok (.getfield 17, 3) := dk_180 0 17 (dk_at dksJ35_checkForComodification_0 4 rfl rfl)
theorem dJ35_checkForComodification_7 : decode cJ35_checkForComodification 7 = .ok (.aload_n 0, 1) := dk_42 (dk_at dksJ35_checkForComodification_0 7 rfl rfl)
theorem dJ35_checkForComodification_8 : decode cJ35_checkForComodification 8 = .ok (.getfield 22, 3) := dk_180 0 22 (dk_at dksJ35_checkForComodification_0 8 rfl rfl)
theorem dJ35_checkForComodification_11 : decode cJ35_checkForComodification 11 = .ok (.if_icmp .eq 11, 3) := dk_159 0 11 (dk_at dksJ35_checkForComodification_0 11 rfl rfl)
theorem dJ35_checkForComodification_14 : decode cJ35_checkForComodification 14 = .ok (.new 41, 3) := dk_187 0 41 (dk_at dksJ35_checkForComodification_0 14 rfl rfl)
theorem dJ35_checkForComodification_17 : decode cJ35_checkForComodification 17 = .ok (.dup, 1) := dk_89 (dk_at dksJ35_checkForComodification_0 17 rfl rfl)
theorem dJ35_checkForComodification_18 : decode cJ35_checkForComodification 18 = .ok (.invokespecial 43, 3) := dk_183 0 43 (dk_at dksJ35_checkForComodification_0 18 rfl rfl)
theorem dJ35_checkForComodification_21 : decode cJ35_checkForComodification 21 = .ok (.athrow, 1) := dk_191 (dk_at dksJ35_checkForComodification_0 21 rfl rfl)
theorem dJ35_checkForComodification_22 : decode cJ35_checkForComodification 22 = .ok (.return_, 1) := dk_177 (dk_at dksJ35_checkForComodification_0 22 rfl rfl)

/-! decode rows: J36.java_util_ArrayList_ListItr.lean.txt -/
set_option maxRecDepth 100000
-- two fields of one name: no nmJ36
abbrev cJ36_init : ByteArray := prog_52_method_1_code
def yJ36_init : MethodName := ⟨RJ36, "<init>", "(Ljava/util/ArrayList;I)V"⟩
def dkwJ36_init_0 : List UInt8 := [42, 43, 181, 0, 1, 42, 43, 183, 0, 7, 42, 28, 181, 0, 13, 177]
abbrev dktJ36_init_0 : List UInt8 := dkwJ36_init_0 ++ []
theorem dksJ36_init_0 : cJ36_init.data.toList.drop 0 = dktJ36_init_0 := by decide +kernel
theorem dJ36_init_0 : decode cJ36_init 0 = .ok (.aload_n 0, 1) := dk_42 (dk_at dksJ36_init_0 0 rfl rfl)
theorem dJ36_init_1 : decode cJ36_init 1 = .ok (.aload_n 1, 1) := dk_43 (dk_at dksJ36_init_0 1 rfl rfl)
theorem dJ36_init_2 : decode cJ36_init 2 = .ok (.putfield 1, 3) := dk_181 0 1 (dk_at dksJ36_init_0 2 rfl rfl)
theorem dJ36_init_5 : decode cJ36_init 5 = .ok (.aload_n 0, 1) := dk_42 (dk_at dksJ36_init_0 5 rfl rfl)
theorem dJ36_init_6 : decode cJ36_init 6 = .ok (.aload_n 1, 1) := dk_43 (dk_at dksJ36_init_0 6 rfl rfl)
theorem dJ36_init_7 : decode cJ36_init 7 = .ok (.invokespecial 7, 3) := dk_183 0 7 (dk_at dksJ36_init_0 7 rfl rfl)
theorem dJ36_init_10 : decode cJ36_init 10 = .ok (.aload_n 0, 1) := dk_42 (dk_at dksJ36_init_0 10 rfl rfl)
theorem dJ36_init_11 : decode cJ36_init 11 = .ok (.iload_n 2, 1) := dk_28 (dk_at dksJ36_init_0 11 rfl rfl)
theorem dJ36_init_12 : decode cJ36_init 12 = .ok (.putfield 13, 3) := dk_181 0 13 (dk_at dksJ36_init_0 12 rfl rfl)
theorem dJ36_init_15 : decode cJ36_init 15 = .ok (.return_, 1) := dk_177 (dk_at dksJ36_init_0 15 rfl rfl)

/-! decode rows: J37.java_util_LinkedList_ListItr.lean.txt -/
set_option maxRecDepth 100000
abbrev cJ37_init : ByteArray := prog_65_method_1_code
def yJ37_init : MethodName := ⟨RJ37, "<init>", "(Ljava/util/LinkedList;I)V"⟩
def dkwJ37_init_1 : List UInt8 := [180, 0, 22, 160, 0, 7, 1, 167, 0, 8, 43, 28, 182, 0, 25, 181, 0, 29, 42, 28, 181, 0, 33, 177]
abbrev dktJ37_init_1 : List UInt8 := dkwJ37_init_1 ++ []
def dkwJ37_init_0 : List UInt8 := [42, 43, 181, 0, 1, 42, 183, 0, 7, 42, 42, 180, 0, 1, 180, 0, 13, 181, 0, 19, 42, 28, 43]
abbrev dktJ37_init_0 : List UInt8 := dkwJ37_init_0 ++ dktJ37_init_1
theorem dksJ37_init_0 : cJ37_init.data.toList.drop 0 = dktJ37_init_0 := by decide +kernel
theorem dksJ37_init_1 : cJ37_init.data.toList.drop 23 = dktJ37_init_1 := dk_seg dksJ37_init_0 23 rfl rfl
theorem dJ37_init_0 : decode cJ37_init 0 = .ok (.aload_n 0, 1) := dk_42 (dk_at dksJ37_init_0 0 rfl rfl)
theorem dJ37_init_1 : decode cJ37_init 1 = .ok (.aload_n 1, 1) := dk_43 (dk_at dksJ37_init_0 1 rfl rfl)
theorem dJ37_init_2 : decode cJ37_init 2 = .ok (.putfield 1, 3) := dk_181 0 1 (dk_at dksJ37_init_0 2 rfl rfl)
theorem dJ37_init_5 : decode cJ37_init 5 = .ok (.aload_n 0, 1) := dk_42 (dk_at dksJ37_init_0 5 rfl rfl)
theorem dJ37_init_6 : decode cJ37_init 6 = .ok (.invokespecial 7, 3) := dk_183 0 7 (dk_at dksJ37_init_0 6 rfl rfl)
theorem dJ37_init_9 : decode cJ37_init 9 = .ok (.aload_n 0, 1) := dk_42 (dk_at dksJ37_init_0 9 rfl rfl)
theorem dJ37_init_10 : decode cJ37_init 10 = .ok (.aload_n 0, 1) := dk_42 (dk_at dksJ37_init_0 10 rfl rfl)
theorem dJ37_init_11 : decode cJ37_init 11 = .ok (.getfield 1, 3) := dk_180 0 1 (dk_at dksJ37_init_0 11 rfl rfl)
theorem dJ37_init_14 : decode cJ37_init 14 = .ok (.getfield 13, 3) := dk_180 0 13 (dk_at dksJ37_init_0 14 rfl rfl)
theorem dJ37_init_17 : decode cJ37_init 17 = .ok (.putfield 19, 3) := dk_181 0 19 (dk_at dksJ37_init_0 17 rfl rfl)
theorem dJ37_init_20 : decode cJ37_init 20 = .ok (.aload_n 0, 1) := dk_42 (dk_at dksJ37_init_0 20 rfl rfl)
theorem dJ37_init_21 : decode cJ37_init 21 = .ok (.iload_n 2, 1) := dk_28 (dk_at dksJ37_init_0 21 rfl rfl)
theorem dJ37_init_22 : decode cJ37_init 22 = .ok (.aload_n 1, 1) := dk_43 (dk_at dksJ37_init_0 22 rfl rfl)
theorem dJ37_init_23 : decode cJ37_init 23 = .ok (.getfield 22, 3) := dk_180 0 22 (dk_at dksJ37_init_1 0 rfl rfl)
theorem dJ37_init_26 : decode cJ37_init 26 = .ok (.if_icmp .ne 7, 3) := dk_160 0 7 (dk_at dksJ37_init_1 3 rfl rfl)
theorem dJ37_init_29 : decode cJ37_init 29 = .ok (.aconst_null, 1) := dk_1 (dk_at dksJ37_init_1 6 rfl rfl)
theorem dJ37_init_30 : decode cJ37_init 30 = .ok (.goto 8, 3) := dk_167 0 8 (dk_at dksJ37_init_1 7 rfl rfl)
theorem dJ37_init_33 : decode cJ37_init 33 = .ok (.aload_n 1, 1) := dk_43 (dk_at dksJ37_init_1 10 rfl rfl)
theorem dJ37_init_34 : decode cJ37_init 34 = .ok (.iload_n 2, 1) := dk_28 (dk_at dksJ37_init_1 11 rfl rfl)
theorem dJ37_init_35 : decode cJ37_init 35 = .ok (.invokevirtual 25, 3) := dk_182 0 25 (dk_at dksJ37_init_1 12 rfl rfl)
theorem dJ37_init_38 : decode cJ37_init 38 = .ok (.putfield 29, 3) := dk_181 0 29 (dk_at dksJ37_init_1 15 rfl rfl)
theorem dJ37_init_41 : decode cJ37_init 41 = .ok (.aload_n 0, 1) := dk_42 (dk_at dksJ37_init_1 18 rfl rfl)
theorem dJ37_init_42 : decode cJ37_init 42 = .ok (.iload_n 2, 1) := dk_28 (dk_at dksJ37_init_1 19 rfl rfl)
theorem dJ37_init_43 : decode cJ37_init 43 = .ok (.putfield 33, 3) := dk_181 0 33 (dk_at dksJ37_init_1 20 rfl rfl)
theorem dJ37_init_46 : decode cJ37_init 46 = .ok (.return_, 1) := dk_177 (dk_at dksJ37_init_1 23 rfl rfl)
abbrev cJ37_hasNext : ByteArray := prog_65_method_2_code
def yJ37_hasNext : MethodName := ⟨RJ37, "hasNext", "()Z"⟩
def dkwJ37_hasNext_0 : List UInt8 := [42, 180, 0, 33, 42, 180, 0, 1, 180, 0, 22, 162, 0, 7, 4, 167, 0, 4, 3, 172]
abbrev dktJ37_hasNext_0 : List UInt8 := dkwJ37_hasNext_0 ++ []
theorem dksJ37_hasNext_0 : cJ37_hasNext.data.toList.drop 0 = dktJ37_hasNext_0 := by decide +kernel
theorem dJ37_hasNext_0 : decode cJ37_hasNext 0 = .ok (.aload_n 0, 1) := dk_42 (dk_at dksJ37_hasNext_0 0 rfl rfl)
theorem dJ37_hasNext_1 : decode cJ37_hasNext 1 = .ok (.getfield 33, 3) := dk_180 0 33 (dk_at dksJ37_hasNext_0 1 rfl rfl)
theorem dJ37_hasNext_4 : decode cJ37_hasNext 4 = .ok (.aload_n 0, 1) := dk_42 (dk_at dksJ37_hasNext_0 4 rfl rfl)
theorem dJ37_hasNext_5 : decode cJ37_hasNext 5 = .ok (.getfield 1, 3) := dk_180 0 1 (dk_at dksJ37_hasNext_0 5 rfl rfl)
theorem dJ37_hasNext_8 : decode cJ37_hasNext 8 = .ok (.getfield 22, 3) := dk_180 0 22 (dk_at dksJ37_hasNext_0 8 rfl rfl)
theorem dJ37_hasNext_11 : decode cJ37_hasNext 11 = .ok (.if_icmp .ge 7, 3) := dk_162 0 7 (dk_at dksJ37_hasNext_0 11 rfl rfl)
theorem dJ37_hasNext_14 : decode cJ37_hasNext 14 = .ok (.iconst 1, 1) := dk_4 (dk_at dksJ37_hasNext_0 14 rfl rfl)
theorem dJ37_hasNext_15 : decode cJ37_hasNext 15 = .ok (.goto 4, 3) := dk_167 0 4 (dk_at dksJ37_hasNext_0 15 rfl rfl)
theorem dJ37_hasNext_18 : decode cJ37_hasNext 18 = .ok (.iconst 0, 1) := dk_3 (dk_at dksJ37_hasNext_0 18 rfl rfl)
theorem dJ37_hasNext_19 : decode cJ37_hasNext 19 = .ok (.ireturn, 1) := dk_172 (dk_at dksJ37_hasNext_0 19 rfl rfl)
abbrev cJ37_next : ByteArray := prog_65_method_3_code
def yJ37_next : MethodName := ⟨RJ37, "next", "()Ljava/lang/Object;"⟩
def dkwJ37_next_2 : List UInt8 := [42, 180, 0, 46, 180, 0, 52, 176]
abbrev dktJ37_next_2 : List UInt8 := dkwJ37_next_2 ++ []
def dkwJ37_next_1 : List UInt8 := [181, 0, 46, 42, 42, 180, 0, 29, 180, 0, 49, 181, 0, 29, 42, 89, 180, 0, 33, 4, 96, 181, 0, 33]
abbrev dktJ37_next_1 : List UInt8 := dkwJ37_next_1 ++ dktJ37_next_2
def dkwJ37_next_0 : List UInt8 := [42, 182, 0, 36, 42, 182, 0, 39, 154, 0, 11, 187, 0, 43, 89, 183, 0, 45, 191, 42, 42, 180, 0, 29]
abbrev dktJ37_next_0 : List UInt8 := dkwJ37_next_0 ++ dktJ37_next_1
theorem dksJ37_next_0 : cJ37_next.data.toList.drop 0 = dktJ37_next_0 := by decide +kernel
theorem dksJ37_next_1 : cJ37_next.data.toList.drop 24 = dktJ37_next_1 := dk_seg dksJ37_next_0 24 rfl rfl
theorem dksJ37_next_2 : cJ37_next.data.toList.drop 48 = dktJ37_next_2 := dk_seg dksJ37_next_1 24 rfl rfl
theorem dJ37_next_0 : decode cJ37_next 0 = .ok (.aload_n 0, 1) := dk_42 (dk_at dksJ37_next_0 0 rfl rfl)
theorem dJ37_next_1 : decode cJ37_next 1 = .ok (.invokevirtual 36, 3) := dk_182 0 36 (dk_at dksJ37_next_0 1 rfl rfl)
theorem dJ37_next_4 : decode cJ37_next 4 = .ok (.aload_n 0, 1) := dk_42 (dk_at dksJ37_next_0 4 rfl rfl)
theorem dJ37_next_5 : decode cJ37_next 5 = .ok (.invokevirtual 39, 3) := dk_182 0 39 (dk_at dksJ37_next_0 5 rfl rfl)
theorem dJ37_next_8 : decode cJ37_next 8 = .ok (.ifCond .ne 11, 3) := dk_154 0 11 (dk_at dksJ37_next_0 8 rfl rfl)
theorem dJ37_next_11 : decode cJ37_next 11 = .ok (.new 43, 3) := dk_187 0 43 (dk_at dksJ37_next_0 11 rfl rfl)
theorem dJ37_next_14 : decode cJ37_next 14 = .ok (.dup, 1) := dk_89 (dk_at dksJ37_next_0 14 rfl rfl)
theorem dJ37_next_15 : decode cJ37_next 15 = .ok (.invokespecial 45, 3) := dk_183 0 45 (dk_at dksJ37_next_0 15 rfl rfl)
theorem dJ37_next_18 : decode cJ37_next 18 = .ok (.athrow, 1) := dk_191 (dk_at dksJ37_next_0 18 rfl rfl)
theorem dJ37_next_19 : decode cJ37_next 19 = .ok (.aload_n 0, 1) := dk_42 (dk_at dksJ37_next_0 19 rfl rfl)
theorem dJ37_next_20 : decode cJ37_next 20 = .ok (.aload_n 0, 1) := dk_42 (dk_at dksJ37_next_0 20 rfl rfl)
theorem dJ37_next_21 : decode cJ37_next 21 = .ok (.getfield 29, 3) := dk_180 0 29 (dk_at dksJ37_next_0 21 rfl rfl)
theorem dJ37_next_24 : decode cJ37_next 24 = .ok (.putfield 46, 3) := dk_181 0 46 (dk_at dksJ37_next_1 0 rfl rfl)
theorem dJ37_next_27 : decode cJ37_next 27 = .ok (.aload_n 0, 1) := dk_42 (dk_at dksJ37_next_1 3 rfl rfl)
theorem dJ37_next_28 : decode cJ37_next 28 = .ok (.aload_n 0, 1) := dk_42 (dk_at dksJ37_next_1 4 rfl rfl)
theorem dJ37_next_29 : decode cJ37_next 29 = .ok (.getfield 29, 3) := dk_180 0 29 (dk_at dksJ37_next_1 5 rfl rfl)
theorem dJ37_next_32 : decode cJ37_next 32 = .ok (.getfield 49, 3) := dk_180 0 49 (dk_at dksJ37_next_1 8 rfl rfl)
theorem dJ37_next_35 : decode cJ37_next 35 = .ok (.putfield 29, 3) := dk_181 0 29 (dk_at dksJ37_next_1 11 rfl rfl)
theorem dJ37_next_38 : decode cJ37_next 38 = .ok (.aload_n 0, 1) := dk_42 (dk_at dksJ37_next_1 14 rfl rfl)
theorem dJ37_next_39 : decode cJ37_next 39 = .ok (.dup, 1) := dk_89 (dk_at dksJ37_next_1 15 rfl rfl)
theorem dJ37_next_40 : decode cJ37_next 40 = .ok (.getfield 33, 3) := dk_180 0 33 (dk_at dksJ37_next_1 16 rfl rfl)
theorem dJ37_next_43 : decode cJ37_next 43 = .ok (.iconst 1, 1) := dk_4 (dk_at dksJ37_next_1 19 rfl rfl)
theorem dJ37_next_44 : decode cJ37_next 44 = .ok (.iadd, 1) := dk_96 (dk_at dksJ37_next_1 20 rfl rfl)
theorem dJ37_next_45 : decode cJ37_next 45 = .ok (.putfield 33, 3) := dk_181 0 33 (dk_at dksJ37_next_1 21 rfl rfl)
theorem dJ37_next_48 : decode cJ37_next 48 = .ok (.aload_n 0, 1) := dk_42 (dk_at dksJ37_next_2 0 rfl rfl)
theorem dJ37_next_49 : decode cJ37_next 49 = .ok (.getfield 46, 3) := dk_180 0 46 (dk_at dksJ37_next_2 1 rfl rfl)
theorem dJ37_next_52 : decode cJ37_next 52 = .ok (.getfield 52, 3) := dk_180 0 52 (dk_at dksJ37_next_2 4 rfl rfl)
theorem dJ37_next_55 : decode cJ37_next 55 = .ok (.areturn, 1) := dk_176 (dk_at dksJ37_next_2 7 rfl rfl)
abbrev cJ37_checkForComodification : ByteArray := prog_65_method_12_code
def yJ37_checkForComodification : MethodName := ⟨RJ37, "checkForComodification", "()V"⟩
def dkwJ37_checkForComodification_0 : List UInt8 := [42, 180, 0, 1, 180, 0, 13, 42, 180, 0, 19, 159, 0, 11, 187, 0, 91, 89, 183, 0, 93, 191, 177]
abbrev dktJ37_checkForComodification_0 : List UInt8 := dkwJ37_checkForComodification_0 ++ []
theorem dksJ37_checkForComodification_0 : cJ37_checkForComodification.data.toList.drop 0 = dktJ37_checkForComodification_0 := by decide +kernel
theorem dJ37_checkForComodification_0 : decode cJ37_checkForComodification 0 = .ok (.aload_n 0, 1) := dk_42 (dk_at dksJ37_checkForComodification_0 0 rfl rfl)
theorem dJ37_checkForComodification_1 : decode cJ37_checkForComodification 1 = .ok (.getfield 1, 3) := dk_180 0 1 (dk_at dksJ37_checkForComodification_0 1 rfl rfl)
theorem dJ37_checkForComodification_4 : decode cJ37_checkForComodification 4 = .ok (.getfield 13, 3) := dk_180 0 13 (dk_at dksJ37_checkForComodification_0 4 rfl rfl)
theorem dJ37_checkForComodification_7 : decode cJ37_checkForComodification 7 = .ok (.aload_n 0, 1) := dk_42 (dk_at dksJ37_checkForComodification_0 7 rfl rfl)
theorem dJ37_checkForComodification_8 : decode cJ37_checkForComodification 8 = .ok (.getfield 19, 3) := dk_180 0 19 (dk_at dksJ37_checkForComodification_0 8 rfl rfl)
theorem dJ37_checkForComodification_11 : decode cJ37_checkForComodification 11 = .ok (.if_icmp .eq 11, 3) := dk_159 0 11 (dk_at dksJ37_checkForComodification_0 11 rfl rfl)
theorem dJ37_checkForComodification_14 : decode cJ37_checkForComodification 14 = .ok (.new 91, 3) := dk_187 0 91 (dk_at dksJ37_checkForComodification_0 14 rfl rfl)
theorem dJ37_checkForComodification_17 : decode cJ37_checkForComodification 17 = .ok (.dup, 1) := dk_89 (dk_at dksJ37_checkForComodification_0 17 rfl rfl)
theorem dJ37_checkForComodification_18 : decode cJ37_checkForComodification 18 = .ok (.invokespecial 93, 3) := dk_183 0 93 (dk_at dksJ37_checkForComodification_0 18 rfl rfl)
theorem dJ37_checkForComodification_21 : decode cJ37_checkForComodification 21 = .ok (.athrow, 1) := dk_191 (dk_at dksJ37_checkForComodification_0 21 rfl rfl)
theorem dJ37_checkForComodification_22 : decode cJ37_checkForComodification 22 = .ok (.return_, 1) := dk_177 (dk_at dksJ37_checkForComodification_0 22 rfl rfl)

/-! decode rows: J38.java_util_NoSuchElementException.lean.txt -/
set_option maxRecDepth 100000
abbrev cJ38_init : ByteArray := prog_69_method_3_code
def yJ38_init : MethodName := ⟨RJ38, "<init>", "(Ljava/lang/Throwable;)V"⟩
def dkwJ38_init_0 : List UInt8 := [42, 43, 183, 0, 10, 177]
abbrev dktJ38_init_0 : List UInt8 := dkwJ38_init_0 ++ []
theorem dksJ38_init_0 : cJ38_init.data.toList.drop 0 = dktJ38_init_0 := by decide +kernel
theorem dJ38_init_0 : decode cJ38_init 0 = .ok (.aload_n 0, 1) := dk_42 (dk_at dksJ38_init_0 0 rfl rfl)
theorem dJ38_init_1 : decode cJ38_init 1 = .ok (.aload_n 1, 1) := dk_43 (dk_at dksJ38_init_0 1 rfl rfl)
theorem dJ38_init_2 : decode cJ38_init 2 = .ok (.invokespecial 10, 3) := dk_183 0 10 (dk_at dksJ38_init_0 2 rfl rfl)
theorem dJ38_init_5 : decode cJ38_init 5 = .ok (.return_, 1) := dk_177 (dk_at dksJ38_init_0 5 rfl rfl)

/-! decode rows: J39.java_lang_StringIndexOutOfBoundsException.lean.txt -/
set_option maxRecDepth 100000
abbrev cJ39_init : ByteArray := prog_36_method_3_code
def yJ39_init : MethodName := ⟨RJ39, "<init>", "(I)V"⟩
def dkwJ39_init_0 : List UInt8 := [42, 187, 0, 10, 89, 183, 0, 12, 18, 13, 182, 0, 15, 27, 182, 0, 19, 182, 0, 22, 183, 0, 7, 177]
abbrev dktJ39_init_0 : List UInt8 := dkwJ39_init_0 ++ []
theorem dksJ39_init_0 : cJ39_init.data.toList.drop 0 = dktJ39_init_0 := by decide +kernel
theorem dJ39_init_0 : decode cJ39_init 0 = .ok (.aload_n 0, 1) := dk_42 (dk_at dksJ39_init_0 0 rfl rfl)
theorem dJ39_init_1 : decode cJ39_init 1 = .ok (.new 10, 3) := dk_187 0 10 (dk_at dksJ39_init_0 1 rfl rfl)
theorem dJ39_init_4 : decode cJ39_init 4 = .ok (.dup, 1) := dk_89 (dk_at dksJ39_init_0 4 rfl rfl)
theorem dJ39_init_5 : decode cJ39_init 5 = .ok (.invokespecial 12, 3) := dk_183 0 12 (dk_at dksJ39_init_0 5 rfl rfl)
theorem dJ39_init_8 : decode cJ39_init 8 = .ok (.ldc 13, 2) := dk_18 13 (dk_at dksJ39_init_0 8 rfl rfl)
theorem dJ39_init_10 : decode cJ39_init 10 = .ok (.invokevirtual 15, 3) := dk_182 0 15 (dk_at dksJ39_init_0 10 rfl rfl)
theorem dJ39_init_13 : decode cJ39_init 13 = .ok (.iload_n 1, 1) := dk_27 (dk_at dksJ39_init_0 13 rfl rfl)
theorem dJ39_init_14 : decode cJ39_init 14 = .ok (.invokevirtual 19, 3) := dk_182 0 19 (dk_at dksJ39_init_0 14 rfl rfl)
theorem dJ39_init_17 : decode cJ39_init 17 = .ok (.invokevirtual 22, 3) := dk_182 0 22 (dk_at dksJ39_init_0 17 rfl rfl)
theorem dJ39_init_20 : decode cJ39_init 20 = .ok (.invokespecial 7, 3) := dk_183 0 7 (dk_at dksJ39_init_0 20 rfl rfl)
theorem dJ39_init_23 : decode cJ39_init 23 = .ok (.return_, 1) := dk_177 (dk_at dksJ39_init_0 23 rfl rfl)

/-! decode rows: J40.java_lang_Object.lean.txt -/
set_option maxRecDepth 100000
abbrev cJ40_init : ByteArray := object_method_1_code
def yJ40_init : MethodName := ⟨RJ40, "<init>", "()V"⟩
theorem dJ40_init_0 : decode cJ40_init 0 = .ok (.return_, 1) := by decide +kernel
abbrev cJ40_equals : ByteArray := object_method_4_code
def yJ40_equals : MethodName := ⟨RJ40, "equals", "(Ljava/lang/Object;)Z"⟩
def dkwJ40_equals_0 : List UInt8 := [42, 43, 166, 0, 7, 4, 167, 0, 4, 3, 172]
abbrev dktJ40_equals_0 : List UInt8 := dkwJ40_equals_0 ++ []
theorem dksJ40_equals_0 : cJ40_equals.data.toList.drop 0 = dktJ40_equals_0 := by decide +kernel
theorem dJ40_equals_0 : decode cJ40_equals 0 = .ok (.aload_n 0, 1) := dk_42 (dk_at dksJ40_equals_0 0 rfl rfl)
theorem dJ40_equals_1 : decode cJ40_equals 1 = .ok (.aload_n 1, 1) := dk_43 (dk_at dksJ40_equals_0 1 rfl rfl)
theorem dJ40_equals_2 : decode cJ40_equals 2 = .ok (.if_acmp .ne 7, 3) := dk_166 0 7 (dk_at dksJ40_equals_0 2 rfl rfl)
theorem dJ40_equals_5 : decode cJ40_equals 5 = .ok (.iconst 1, 1) := dk_4 (dk_at dksJ40_equals_0 5 rfl rfl)
theorem dJ40_equals_6 : decode cJ40_equals 6 = .ok (.goto 4, 3) := dk_167 0 4 (dk_at dksJ40_equals_0 6 rfl rfl)
theorem dJ40_equals_9 : decode cJ40_equals 9 = .ok (.iconst 0, 1) := dk_3 (dk_at dksJ40_equals_0 9 rfl rfl)
theorem dJ40_equals_10 : decode cJ40_equals 10 = .ok (.ireturn, 1) := dk_172 (dk_at dksJ40_equals_0 10 rfl rfl)

/-! decode rows: J41.java_lang_System_2.lean.txt -/
set_option maxRecDepth 100000
abbrev cJ41_getUTF16Char : ByteArray := prog_40_method_45_code
def yJ41_getUTF16Char : MethodName := ⟨RJ41, "getUTF16Char", "([BI)C"⟩
def dkwJ41_getUTF16Char_0 : List UInt8 := [43, 28, 184, 0, 185, 172]
abbrev dktJ41_getUTF16Char_0 : List UInt8 := dkwJ41_getUTF16Char_0 ++ []
theorem dksJ41_getUTF16Char_0 : cJ41_getUTF16Char.data.toList.drop 0 = dktJ41_getUTF16Char_0 := by decide +kernel
theorem dJ41_getUTF16Char_0 : decode cJ41_getUTF16Char 0 = .ok (.aload_n 1, 1) := dk_43 (dk_at dksJ41_getUTF16Char_0 0 rfl rfl)
theorem dJ41_getUTF16Char_1 : decode cJ41_getUTF16Char 1 = .ok (.iload_n 2, 1) := dk_28 (dk_at dksJ41_getUTF16Char_0 1 rfl rfl)
theorem dJ41_getUTF16Char_2 : decode cJ41_getUTF16Char 2 = .ok (.invokestatic 185, 3) := dk_184 0 185 (dk_at dksJ41_getUTF16Char_0 2 rfl rfl)
theorem dJ41_getUTF16Char_5 : decode cJ41_getUTF16Char 5 = .ok (.ireturn, 1) := dk_172 (dk_at dksJ41_getUTF16Char_0 5 rfl rfl)

