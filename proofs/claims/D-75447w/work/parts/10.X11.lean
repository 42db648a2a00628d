/-! decode rows: X11.AcousticCamera_Zone.lean.txt -/
set_option maxRecDepth 100000
abbrev cX11_init : ByteArray := prog_13_method_1_code
def yX11_init : MethodName := ⟨RX11, "<init>", "(IIII)V"⟩
def dkwX11_init_1 : List UInt8 := [181, 0, 19, 177]
abbrev dktX11_init_1 : List UInt8 := dkwX11_init_1 ++ []
def dkwX11_init_0 : List UInt8 := [42, 183, 0, 1, 42, 27, 181, 0, 7, 42, 28, 181, 0, 13, 42, 29, 181, 0, 16, 42, 21, 4]
abbrev dktX11_init_0 : List UInt8 := dkwX11_init_0 ++ dktX11_init_1
theorem dksX11_init_0 : cX11_init.data.toList.drop 0 = dktX11_init_0 := by decide +kernel
theorem dksX11_init_1 : cX11_init.data.toList.drop 22 = dktX11_init_1 := dk_seg dksX11_init_0 22 rfl rfl
theorem dX11_init_0 : decode cX11_init 0 = .ok (.aload_n 0, 1) := dk_42 (dk_at dksX11_init_0 0 rfl rfl)
theorem dX11_init_1 : decode cX11_init 1 = .ok (.invokespecial 1, 3) := dk_183 0 1 (dk_at dksX11_init_0 1 rfl rfl)
theorem dX11_init_4 : decode cX11_init 4 = .ok (.aload_n 0, 1) := dk_42 (dk_at dksX11_init_0 4 rfl rfl)
theorem dX11_init_5 : decode cX11_init 5 = .ok (.iload_n 1, 1) := dk_27 (dk_at dksX11_init_0 5 rfl rfl)
theorem dX11_init_6 : decode cX11_init 6 = .ok (.putfield 7, 3) := dk_181 0 7 (dk_at dksX11_init_0 6 rfl rfl)
theorem dX11_init_9 : decode cX11_init 9 = .ok (.aload_n 0, 1) := dk_42 (dk_at dksX11_init_0 9 rfl rfl)
theorem dX11_init_10 : decode cX11_init 10 = .ok (.iload_n 2, 1) := dk_28 (dk_at dksX11_init_0 10 rfl rfl)
theorem dX11_init_11 : decode cX11_init 11 = .ok (.putfield 13, 3) := dk_181 0 13 (dk_at dksX11_init_0 11 rfl rfl)
theorem dX11_init_14 : decode cX11_init 14 = .ok (.aload_n 0, 1) := dk_42 (dk_at dksX11_init_0 14 rfl rfl)
theorem dX11_init_15 : decode cX11_init 15 = .ok (.iload_n 3, 1) := dk_29 (dk_at dksX11_init_0 15 rfl rfl)
theorem dX11_init_16 : decode cX11_init 16 = .ok (.putfield 16, 3) := dk_181 0 16 (dk_at dksX11_init_0 16 rfl rfl)
theorem dX11_init_19 : decode cX11_init 19 = .ok (.aload_n 0, 1) := dk_42 (dk_at dksX11_init_0 19 rfl rfl)
theorem dX11_init_20 : decode cX11_init 20 = .ok (.iload 4, 2) := dk_21 4 (dk_at dksX11_init_0 20 rfl rfl)
theorem dX11_init_22 : decode cX11_init 22 = .ok (.putfield 19, 3) := dk_181 0 19 (dk_at dksX11_init_1 0 rfl rfl)
theorem dX11_init_25 : decode cX11_init 25 = .ok (.return_, 1) := dk_177 (dk_at dksX11_init_1 3 rfl rfl)
abbrev cX11_has : ByteArray := prog_13_method_2_code
def yX11_has : MethodName := ⟨RX11, "has", "(II)Z"⟩
def dkwX11_has_1 : List UInt8 := [133, 42, 180, 0, 19, 133, 184, 0, 22, 153, 0, 7, 4, 167, 0, 4, 3, 172]
abbrev dktX11_has_1 : List UInt8 := dkwX11_has_1 ++ []
def dkwX11_has_0 : List UInt8 := [27, 133, 42, 180, 0, 7, 133, 42, 180, 0, 16, 133, 184, 0, 22, 153, 0, 25, 28, 133, 42, 180, 0, 13]
abbrev dktX11_has_0 : List UInt8 := dkwX11_has_0 ++ dktX11_has_1
theorem dksX11_has_0 : cX11_has.data.toList.drop 0 = dktX11_has_0 := by decide +kernel
theorem dksX11_has_1 : cX11_has.data.toList.drop 24 = dktX11_has_1 := dk_seg dksX11_has_0 24 rfl rfl
theorem dX11_has_0 : decode cX11_has 0 = .ok (.iload_n 1, 1) := dk_27 (dk_at dksX11_has_0 0 rfl rfl)
theorem dX11_has_1 : decode cX11_has 1 = .ok (.i2l, 1) := dk_133 (dk_at dksX11_has_0 1 rfl rfl)
theorem dX11_has_2 : decode cX11_has 2 = .ok (.aload_n 0, 1) := dk_42 (dk_at dksX11_has_0 2 rfl rfl)
theorem dX11_has_3 : decode cX11_has 3 = .ok (.getfield 7, 3) := dk_180 0 7 (dk_at dksX11_has_0 3 rfl rfl)
theorem dX11_has_6 : decode cX11_has 6 = .ok (.i2l, 1) := dk_133 (dk_at dksX11_has_0 6 rfl rfl)
theorem dX11_has_7 : decode cX11_has 7 = .ok (.aload_n 0, 1) := dk_42 (dk_at dksX11_has_0 7 rfl rfl)
theorem dX11_has_8 : decode cX11_has 8 = .ok (.getfield 16, 3) := dk_180 0 16 (dk_at dksX11_has_0 8 rfl rfl)
theorem dX11_has_11 : decode cX11_has 11 = .ok (.i2l, 1) := dk_133 (dk_at dksX11_has_0 11 rfl rfl)
theorem dX11_has_12 : decode cX11_has 12 = .ok (.invokestatic 22, 3) := dk_184 0 22 (dk_at dksX11_has_0 12 rfl rfl)
theorem dX11_has_15 : decode cX11_has 15 = .ok (.ifCond .eq 25, 3) := dk_153 0 25 (dk_at dksX11_has_0 15 rfl rfl)
theorem dX11_has_18 : decode cX11_has 18 = .ok (.iload_n 2, 1) := dk_28 (dk_at dksX11_has_0 18 rfl rfl)
theorem dX11_has_19 : decode cX11_has 19 = .ok (.i2l, 1) := dk_133 (dk_at dksX11_has_0 19 rfl rfl)
theorem dX11_has_20 : decode cX11_has 20 = .ok (.aload_n 0, 1) := dk_42 (dk_at dksX11_has_0 20 rfl rfl)
theorem dX11_has_21 : decode cX11_has 21 = .ok (.getfield 13, 3) := dk_180 0 13 (dk_at dksX11_has_0 21 rfl rfl)
theorem dX11_has_24 : decode cX11_has 24 = .ok (.i2l, 1) := dk_133 (dk_at dksX11_has_1 0 rfl rfl)
theorem dX11_has_25 : decode cX11_has 25 = .ok (.aload_n 0, 1) := dk_42 (dk_at dksX11_has_1 1 rfl rfl)
theorem dX11_has_26 : decode cX11_has 26 = .ok (.getfield 19, 3) := dk_180 0 19 (dk_at dksX11_has_1 2 rfl rfl)
theorem dX11_has_29 : decode cX11_has 29 = .ok (.i2l, 1) := dk_133 (dk_at dksX11_has_1 5 rfl rfl)
theorem dX11_has_30 : decode cX11_has 30 = .ok (.invokestatic 22, 3) := dk_184 0 22 (dk_at dksX11_has_1 6 rfl rfl)
theorem dX11_has_33 : decode cX11_has 33 = .ok (.ifCond .eq 7, 3) := dk_153 0 7 (dk_at dksX11_has_1 9 rfl rfl)
theorem dX11_has_36 : decode cX11_has 36 = .ok (.iconst 1, 1) := dk_4 (dk_at dksX11_has_1 12 rfl rfl)
theorem dX11_has_37 : decode cX11_has 37 = .ok (.goto 4, 3) := dk_167 0 4 (dk_at dksX11_has_1 13 rfl rfl)
theorem dX11_has_40 : decode cX11_has 40 = .ok (.iconst 0, 1) := dk_3 (dk_at dksX11_has_1 16 rfl rfl)
theorem dX11_has_41 : decode cX11_has 41 = .ok (.ireturn, 1) := dk_172 (dk_at dksX11_has_1 17 rfl rfl)
