/-! decode rows: X5.AcousticCamera_Setup.lean.txt -/
set_option maxRecDepth 100000
abbrev cX5_init : ByteArray := prog_7_method_1_code
def yX5_init : MethodName := ⟨RX5, "<init>", "()V"⟩
def dkwX5_init_4 : List UInt8 := [197, 0, 46, 2, 181, 0, 48, 177]
abbrev dktX5_init_4 : List UInt8 := dkwX5_init_4 ++ []
def dkwX5_init_3 : List UInt8 := [183, 0, 38, 181, 0, 39, 42, 187, 0, 9, 89, 5, 183, 0, 11, 181, 0, 43, 42, 3, 3]
abbrev dktX5_init_3 : List UInt8 := dkwX5_init_3 ++ dktX5_init_4
def dkwX5_init_2 : List UInt8 := [181, 0, 26, 42, 3, 188, 10, 181, 0, 30, 42, 3, 188, 10, 181, 0, 33, 42, 187, 0, 36, 89, 16, 6]
abbrev dktX5_init_2 : List UInt8 := dkwX5_init_2 ++ dktX5_init_3
def dkwX5_init_1 : List UInt8 := [183, 0, 11, 181, 0, 20, 42, 187, 0, 9, 89, 4, 183, 0, 11, 181, 0, 23, 42, 16, 12, 188, 10]
abbrev dktX5_init_1 : List UInt8 := dkwX5_init_1 ++ dktX5_init_2
def dkwX5_init_0 : List UInt8 := [42, 183, 0, 3, 42, 187, 0, 9, 89, 7, 183, 0, 11, 181, 0, 14, 42, 187, 0, 9, 89, 4]
abbrev dktX5_init_0 : List UInt8 := dkwX5_init_0 ++ dktX5_init_1
theorem dksX5_init_0 : cX5_init.data.toList.drop 0 = dktX5_init_0 := by decide +kernel
theorem dksX5_init_1 : cX5_init.data.toList.drop 22 = dktX5_init_1 := dk_seg dksX5_init_0 22 rfl rfl
theorem dksX5_init_2 : cX5_init.data.toList.drop 45 = dktX5_init_2 := dk_seg dksX5_init_1 23 rfl rfl
theorem dksX5_init_3 : cX5_init.data.toList.drop 69 = dktX5_init_3 := dk_seg dksX5_init_2 24 rfl rfl
theorem dksX5_init_4 : cX5_init.data.toList.drop 90 = dktX5_init_4 := dk_seg dksX5_init_3 21 rfl rfl
theorem dX5_init_0 : decode cX5_init 0 = .ok (.aload_n 0, 1) := dk_42 (dk_at dksX5_init_0 0 rfl rfl)
theorem dX5_init_1 : decode cX5_init 1 = .ok (.invokespecial 3, 3) := dk_183 0 3 (dk_at dksX5_init_0 1 rfl rfl)
theorem dX5_init_4 : decode cX5_init 4 = .ok (.aload_n 0, 1) := dk_42 (dk_at dksX5_init_0 4 rfl rfl)
theorem dX5_init_5 : decode cX5_init 5 = .ok (.new 9, 3) := dk_187 0 9 (dk_at dksX5_init_0 5 rfl rfl)
theorem dX5_init_8 : decode cX5_init 8 = .ok (.dup, 1) := dk_89 (dk_at dksX5_init_0 8 rfl rfl)
theorem dX5_init_9 : decode cX5_init 9 = .ok (.iconst 4, 1) := dk_7 (dk_at dksX5_init_0 9 rfl rfl)
theorem dX5_init_10 : decode cX5_init 10 = .ok (.invokespecial 11, 3) := dk_183 0 11 (dk_at dksX5_init_0 10 rfl rfl)
theorem dX5_init_13 : decode cX5_init 13 = .ok (.putfield 14, 3) := dk_181 0 14 (dk_at dksX5_init_0 13 rfl rfl)
theorem dX5_init_16 : decode cX5_init 16 = .ok (.aload_n 0, 1) := dk_42 (dk_at dksX5_init_0 16 rfl rfl)
theorem dX5_init_17 : decode cX5_init 17 = .ok (.new 9, 3) := dk_187 0 9 (dk_at dksX5_init_0 17 rfl rfl)
theorem dX5_init_20 : decode cX5_init 20 = .ok (.dup, 1) := dk_89 (dk_at dksX5_init_0 20 rfl rfl)
theorem dX5_init_21 : decode cX5_init 21 = .ok (.iconst 1, 1) := dk_4 (dk_at dksX5_init_0 21 rfl rfl)
theorem dX5_init_22 : decode cX5_init 22 = .ok (.invokespecial 11, 3) := dk_183 0 11 (dk_at dksX5_init_1 0 rfl rfl)
theorem dX5_init_25 : decode cX5_init 25 = .ok (.putfield 20, 3) := dk_181 0 20 (dk_at dksX5_init_1 3 rfl rfl)
theorem dX5_init_28 : decode cX5_init 28 = .ok (.aload_n 0, 1) := dk_42 (dk_at dksX5_init_1 6 rfl rfl)
theorem dX5_init_29 : decode cX5_init 29 = .ok (.new 9, 3) := dk_187 0 9 (dk_at dksX5_init_1 7 rfl rfl)
theorem dX5_init_32 : decode cX5_init 32 = .ok (.dup, 1) := dk_89 (dk_at dksX5_init_1 10 rfl rfl)
theorem dX5_init_33 : decode cX5_init 33 = .ok (.iconst 1, 1) := dk_4 (dk_at dksX5_init_1 11 rfl rfl)
theorem dX5_init_34 : decode cX5_init 34 = .ok (.invokespecial 11, 3) := dk_183 0 11 (dk_at dksX5_init_1 12 rfl rfl)
theorem dX5_init_37 : decode cX5_init 37 = .ok (.putfield 23, 3) := dk_181 0 23 (dk_at dksX5_init_1 15 rfl rfl)
theorem dX5_init_40 : decode cX5_init 40 = .ok (.aload_n 0, 1) := dk_42 (dk_at dksX5_init_1 18 rfl rfl)
theorem dX5_init_41 : decode cX5_init 41 = .ok (.bipush 12, 2) := dk_16 12 (dk_at dksX5_init_1 19 rfl rfl)
theorem dX5_init_43 : decode cX5_init 43 = .ok (.newarray .int, 2) := dk_188_10 (dk_at dksX5_init_1 21 rfl rfl)
theorem dX5_init_45 : decode cX5_init 45 = .ok (.putfield 26, 3) := dk_181 0 26 (dk_at dksX5_init_2 0 rfl rfl)
theorem dX5_init_48 : decode cX5_init 48 = .ok (.aload_n 0, 1) := dk_42 (dk_at dksX5_init_2 3 rfl rfl)
theorem dX5_init_49 : decode cX5_init 49 = .ok (.iconst 0, 1) := dk_3 (dk_at dksX5_init_2 4 rfl rfl)
theorem dX5_init_50 : decode cX5_init 50 = .ok (.newarray .int, 2) := dk_188_10 (dk_at dksX5_init_2 5 rfl rfl)
theorem dX5_init_52 : decode cX5_init 52 = .ok (.putfield 30, 3) := dk_181 0 30 (dk_at dksX5_init_2 7 rfl rfl)
theorem dX5_init_55 : decode cX5_init 55 = .ok (.aload_n 0, 1) := dk_42 (dk_at dksX5_init_2 10 rfl rfl)
theorem dX5_init_56 : decode cX5_init 56 = .ok (.iconst 0, 1) := dk_3 (dk_at dksX5_init_2 11 rfl rfl)
theorem dX5_init_57 : decode cX5_init 57 = .ok (.newarray .int, 2) := dk_188_10 (dk_at dksX5_init_2 12 rfl rfl)
theorem dX5_init_59 : decode cX5_init 59 = .ok (.putfield 33, 3) := dk_181 0 33 (dk_at dksX5_init_2 14 rfl rfl)
theorem dX5_init_62 : decode cX5_init 62 = .ok (.aload_n 0, 1) := dk_42 (dk_at dksX5_init_2 17 rfl rfl)
theorem dX5_init_63 : decode cX5_init 63 = .ok (.new 36, 3) := dk_187 0 36 (dk_at dksX5_init_2 18 rfl rfl)
theorem dX5_init_66 : decode cX5_init 66 = .ok (.dup, 1) := dk_89 (dk_at dksX5_init_2 21 rfl rfl)
theorem dX5_init_67 : decode cX5_init 67 = .ok (.bipush 6, 2) := dk_16 6 (dk_at dksX5_init_2 22 rfl rfl)
theorem dX5_init_69 : decode cX5_init 69 = .ok (.invokespecial 38, 3) := dk_183 0 38 (dk_at dksX5_init_3 0 rfl rfl)
theorem dX5_init_72 : decode cX5_init 72 = .ok (.putfield 39, 3) := dk_181 0 39 (dk_at dksX5_init_3 3 rfl rfl)
theorem dX5_init_75 : decode cX5_init 75 = .ok (.aload_n 0, 1) := dk_42 (dk_at dksX5_init_3 6 rfl rfl)
theorem dX5_init_76 : decode cX5_init 76 = .ok (.new 9, 3) := dk_187 0 9 (dk_at dksX5_init_3 7 rfl rfl)
theorem dX5_init_79 : decode cX5_init 79 = .ok (.dup, 1) := dk_89 (dk_at dksX5_init_3 10 rfl rfl)
theorem dX5_init_80 : decode cX5_init 80 = .ok (.iconst 2, 1) := dk_5 (dk_at dksX5_init_3 11 rfl rfl)
theorem dX5_init_81 : decode cX5_init 81 = .ok (.invokespecial 11, 3) := dk_183 0 11 (dk_at dksX5_init_3 12 rfl rfl)
theorem dX5_init_84 : decode cX5_init 84 = .ok (.putfield 43, 3) := dk_181 0 43 (dk_at dksX5_init_3 15 rfl rfl)
theorem dX5_init_87 : decode cX5_init 87 = .ok (.aload_n 0, 1) := dk_42 (dk_at dksX5_init_3 18 rfl rfl)
theorem dX5_init_88 : decode cX5_init 88 = .ok (.iconst 0, 1) := dk_3 (dk_at dksX5_init_3 19 rfl rfl)
theorem dX5_init_89 : decode cX5_init 89 = .ok (.iconst 0, 1) := dk_3 (dk_at dksX5_init_3 20 rfl rfl)
theorem dX5_init_90 : decode cX5_init 90 = .ok (.multianewarray 46 2, 4) := by decide +kernel
theorem dX5_init_94 : decode cX5_init 94 = .ok (.putfield 48, 3) := dk_181 0 48 (dk_at dksX5_init_4 4 rfl rfl)
theorem dX5_init_97 : decode cX5_init 97 = .ok (.return_, 1) := dk_177 (dk_at dksX5_init_4 7 rfl rfl)
abbrev cX5_cells : ByteArray := prog_7_method_2_code
def yX5_cells : MethodName := ⟨RX5, "cells", "()I"⟩
def dkwX5_cells_0 : List UInt8 := [42, 180, 0, 51, 42, 180, 0, 55, 104, 172]
abbrev dktX5_cells_0 : List UInt8 := dkwX5_cells_0 ++ []
theorem dksX5_cells_0 : cX5_cells.data.toList.drop 0 = dktX5_cells_0 := by decide +kernel
theorem dX5_cells_0 : decode cX5_cells 0 = .ok (.aload_n 0, 1) := dk_42 (dk_at dksX5_cells_0 0 rfl rfl)
theorem dX5_cells_1 : decode cX5_cells 1 = .ok (.getfield 51, 3) := dk_180 0 51 (dk_at dksX5_cells_0 1 rfl rfl)
theorem dX5_cells_4 : decode cX5_cells 4 = .ok (.aload_n 0, 1) := dk_42 (dk_at dksX5_cells_0 4 rfl rfl)
theorem dX5_cells_5 : decode cX5_cells 5 = .ok (.getfield 55, 3) := dk_180 0 55 (dk_at dksX5_cells_0 5 rfl rfl)
theorem dX5_cells_8 : decode cX5_cells 8 = .ok (.imul, 1) := dk_104 (dk_at dksX5_cells_0 8 rfl rfl)
theorem dX5_cells_9 : decode cX5_cells 9 = .ok (.ireturn, 1) := dk_172 (dk_at dksX5_cells_0 9 rfl rfl)
abbrev cX5_lay : ByteArray := prog_7_method_6_code
def yX5_lay : MethodName := ⟨RX5, "lay", "()V"⟩
def dkwX5_lay_3 : List UInt8 := [132, 2, 1, 167, 255, 222, 132, 1, 1, 167, 255, 201, 177]
abbrev dktX5_lay_3 : List UInt8 := dkwX5_lay_3 ++ []
def dkwX5_lay_2 : List UInt8 := [180, 0, 48, 27, 50, 28, 42, 27, 42, 28, 182, 0, 94, 42, 28, 182, 0, 98, 182, 0, 101, 79]
abbrev dktX5_lay_2 : List UInt8 := dkwX5_lay_2 ++ dktX5_lay_3
def dkwX5_lay_1 : List UInt8 := [42, 180, 0, 14, 185, 0, 87, 1, 0, 162, 0, 48, 3, 61, 28, 42, 182, 0, 91, 162, 0, 32, 42]
abbrev dktX5_lay_1 : List UInt8 := dkwX5_lay_1 ++ dktX5_lay_2
def dkwX5_lay_0 : List UInt8 := [42, 42, 180, 0, 14, 185, 0, 87, 1, 0, 42, 182, 0, 91, 197, 0, 46, 2, 181, 0, 48, 3, 60, 27]
abbrev dktX5_lay_0 : List UInt8 := dkwX5_lay_0 ++ dktX5_lay_1
theorem dksX5_lay_0 : cX5_lay.data.toList.drop 0 = dktX5_lay_0 := by decide +kernel
theorem dksX5_lay_1 : cX5_lay.data.toList.drop 24 = dktX5_lay_1 := dk_seg dksX5_lay_0 24 rfl rfl
theorem dksX5_lay_2 : cX5_lay.data.toList.drop 47 = dktX5_lay_2 := dk_seg dksX5_lay_1 23 rfl rfl
theorem dksX5_lay_3 : cX5_lay.data.toList.drop 69 = dktX5_lay_3 := dk_seg dksX5_lay_2 22 rfl rfl
theorem dX5_lay_0 : decode cX5_lay 0 = .ok (.aload_n 0, 1) := dk_42 (dk_at dksX5_lay_0 0 rfl rfl)
theorem dX5_lay_1 : decode cX5_lay 1 = .ok (.aload_n 0, 1) := dk_42 (dk_at dksX5_lay_0 1 rfl rfl)
theorem dX5_lay_2 : decode cX5_lay 2 = .ok (.getfield 14, 3) := dk_180 0 14 (dk_at dksX5_lay_0 2 rfl rfl)
theorem dX5_lay_5 : decode cX5_lay 5 = .ok (.invokeinterface 87 1, 5) := by decide +kernel
theorem dX5_lay_10 : decode cX5_lay 10 = .ok (.aload_n 0, 1) := dk_42 (dk_at dksX5_lay_0 10 rfl rfl)
theorem dX5_lay_11 : decode cX5_lay 11 = .ok (.invokevirtual 91, 3) := dk_182 0 91 (dk_at dksX5_lay_0 11 rfl rfl)
theorem dX5_lay_14 : decode cX5_lay 14 = .ok (.multianewarray 46 2, 4) := by decide +kernel
theorem dX5_lay_18 : decode cX5_lay 18 = .ok (.putfield 48, 3) := dk_181 0 48 (dk_at dksX5_lay_0 18 rfl rfl)
theorem dX5_lay_21 : decode cX5_lay 21 = .ok (.iconst 0, 1) := dk_3 (dk_at dksX5_lay_0 21 rfl rfl)
theorem dX5_lay_22 : decode cX5_lay 22 = .ok (.istore_n 1, 1) := dk_60 (dk_at dksX5_lay_0 22 rfl rfl)
theorem dX5_lay_23 : decode cX5_lay 23 = .ok (.iload_n 1, 1) := dk_27 (dk_at dksX5_lay_0 23 rfl rfl)
theorem dX5_lay_24 : decode cX5_lay 24 = .ok (.aload_n 0, 1) := dk_42 (dk_at dksX5_lay_1 0 rfl rfl)
theorem dX5_lay_25 : decode cX5_lay 25 = .ok (.getfield 14, 3) := dk_180 0 14 (dk_at dksX5_lay_1 1 rfl rfl)
theorem dX5_lay_28 : decode cX5_lay 28 = .ok (.invokeinterface 87 1, 5) := by decide +kernel
theorem dX5_lay_33 : decode cX5_lay 33 = .ok (.if_icmp .ge 48, 3) := dk_162 0 48 (dk_at dksX5_lay_1 9 rfl rfl)
theorem dX5_lay_36 : decode cX5_lay 36 = .ok (.iconst 0, 1) := dk_3 (dk_at dksX5_lay_1 12 rfl rfl)
theorem dX5_lay_37 : decode cX5_lay 37 = .ok (.istore_n 2, 1) := dk_61 (dk_at dksX5_lay_1 13 rfl rfl)
theorem dX5_lay_38 : decode cX5_lay 38 = .ok (.iload_n 2, 1) := dk_28 (dk_at dksX5_lay_1 14 rfl rfl)
theorem dX5_lay_39 : decode cX5_lay 39 = .ok (.aload_n 0, 1) := dk_42 (dk_at dksX5_lay_1 15 rfl rfl)
theorem dX5_lay_40 : decode cX5_lay 40 = .ok (.invokevirtual 91, 3) := dk_182 0 91 (dk_at dksX5_lay_1 16 rfl rfl)
theorem dX5_lay_43 : decode cX5_lay 43 = .ok (.if_icmp .ge 32, 3) := dk_162 0 32 (dk_at dksX5_lay_1 19 rfl rfl)
theorem dX5_lay_46 : decode cX5_lay 46 = .ok (.aload_n 0, 1) := dk_42 (dk_at dksX5_lay_1 22 rfl rfl)
theorem dX5_lay_47 : decode cX5_lay 47 = .ok (.getfield 48, 3) := dk_180 0 48 (dk_at dksX5_lay_2 0 rfl rfl)
theorem dX5_lay_50 : decode cX5_lay 50 = .ok (.iload_n 1, 1) := dk_27 (dk_at dksX5_lay_2 3 rfl rfl)
theorem dX5_lay_51 : decode cX5_lay 51 = .ok (.aaload, 1) := dk_50 (dk_at dksX5_lay_2 4 rfl rfl)
theorem dX5_lay_52 : decode cX5_lay 52 = .ok (.iload_n 2, 1) := dk_28 (dk_at dksX5_lay_2 5 rfl rfl)
theorem dX5_lay_53 : decode cX5_lay 53 = .ok (.aload_n 0, 1) := dk_42 (dk_at dksX5_lay_2 6 rfl rfl)
theorem dX5_lay_54 : decode cX5_lay 54 = .ok (.iload_n 1, 1) := dk_27 (dk_at dksX5_lay_2 7 rfl rfl)
theorem dX5_lay_55 : decode cX5_lay 55 = .ok (.aload_n 0, 1) := dk_42 (dk_at dksX5_lay_2 8 rfl rfl)
theorem dX5_lay_56 : decode cX5_lay 56 = .ok (.iload_n 2, 1) := dk_28 (dk_at dksX5_lay_2 9 rfl rfl)
theorem dX5_lay_57 : decode cX5_lay 57 = .ok (.invokevirtual 94, 3) := dk_182 0 94 (dk_at dksX5_lay_2 10 rfl rfl)
theorem dX5_lay_60 : decode cX5_lay 60 = .ok (.aload_n 0, 1) := dk_42 (dk_at dksX5_lay_2 13 rfl rfl)
theorem dX5_lay_61 : decode cX5_lay 61 = .ok (.iload_n 2, 1) := dk_28 (dk_at dksX5_lay_2 14 rfl rfl)
theorem dX5_lay_62 : decode cX5_lay 62 = .ok (.invokevirtual 98, 3) := dk_182 0 98 (dk_at dksX5_lay_2 15 rfl rfl)
theorem dX5_lay_65 : decode cX5_lay 65 = .ok (.invokevirtual 101, 3) := dk_182 0 101 (dk_at dksX5_lay_2 18 rfl rfl)
theorem dX5_lay_68 : decode cX5_lay 68 = .ok (.iastore, 1) := dk_79 (dk_at dksX5_lay_2 21 rfl rfl)
theorem dX5_lay_69 : decode cX5_lay 69 = .ok (.iinc 2 1, 3) := dk_132 2 1 (dk_at dksX5_lay_3 0 rfl rfl)
theorem dX5_lay_72 : decode cX5_lay 72 = .ok (.goto (-34), 3) := dk_167 255 222 (dk_at dksX5_lay_3 3 rfl rfl)
theorem dX5_lay_75 : decode cX5_lay 75 = .ok (.iinc 1 1, 3) := dk_132 1 1 (dk_at dksX5_lay_3 6 rfl rfl)
theorem dX5_lay_78 : decode cX5_lay 78 = .ok (.goto (-55), 3) := dk_167 255 201 (dk_at dksX5_lay_3 9 rfl rfl)
theorem dX5_lay_81 : decode cX5_lay 81 = .ok (.return_, 1) := dk_177 (dk_at dksX5_lay_3 12 rfl rfl)
abbrev cX5_xOf : ByteArray := prog_7_method_3_code
def yX5_xOf : MethodName := ⟨RX5, "xOf", "(I)I"⟩
def dkwX5_xOf_0 : List UInt8 := [42, 180, 0, 58, 42, 180, 0, 61, 27, 42, 180, 0, 51, 112, 104, 96, 172]
abbrev dktX5_xOf_0 : List UInt8 := dkwX5_xOf_0 ++ []
theorem dksX5_xOf_0 : cX5_xOf.data.toList.drop 0 = dktX5_xOf_0 := by decide +kernel
theorem dX5_xOf_0 : decode cX5_xOf 0 = .ok (.aload_n 0, 1) := dk_42 (dk_at dksX5_xOf_0 0 rfl rfl)
theorem dX5_xOf_1 : decode cX5_xOf 1 = .ok (.getfield 58, 3) := dk_180 0 58 (dk_at dksX5_xOf_0 1 rfl rfl)
theorem dX5_xOf_4 : decode cX5_xOf 4 = .ok (.aload_n 0, 1) := dk_42 (dk_at dksX5_xOf_0 4 rfl rfl)
theorem dX5_xOf_5 : decode cX5_xOf 5 = .ok (.getfield 61, 3) := dk_180 0 61 (dk_at dksX5_xOf_0 5 rfl rfl)
theorem dX5_xOf_8 : decode cX5_xOf 8 = .ok (.iload_n 1, 1) := dk_27 (dk_at dksX5_xOf_0 8 rfl rfl)
theorem dX5_xOf_9 : decode cX5_xOf 9 = .ok (.aload_n 0, 1) := dk_42 (dk_at dksX5_xOf_0 9 rfl rfl)
theorem dX5_xOf_10 : decode cX5_xOf 10 = .ok (.getfield 51, 3) := dk_180 0 51 (dk_at dksX5_xOf_0 10 rfl rfl)
theorem dX5_xOf_13 : decode cX5_xOf 13 = .ok (.irem, 1) := dk_112 (dk_at dksX5_xOf_0 13 rfl rfl)
theorem dX5_xOf_14 : decode cX5_xOf 14 = .ok (.imul, 1) := dk_104 (dk_at dksX5_xOf_0 14 rfl rfl)
theorem dX5_xOf_15 : decode cX5_xOf 15 = .ok (.iadd, 1) := dk_96 (dk_at dksX5_xOf_0 15 rfl rfl)
theorem dX5_xOf_16 : decode cX5_xOf 16 = .ok (.ireturn, 1) := dk_172 (dk_at dksX5_xOf_0 16 rfl rfl)
abbrev cX5_yOf : ByteArray := prog_7_method_4_code
def yX5_yOf : MethodName := ⟨RX5, "yOf", "(I)I"⟩
def dkwX5_yOf_0 : List UInt8 := [42, 180, 0, 64, 42, 180, 0, 61, 27, 42, 180, 0, 51, 108, 104, 96, 172]
abbrev dktX5_yOf_0 : List UInt8 := dkwX5_yOf_0 ++ []
theorem dksX5_yOf_0 : cX5_yOf.data.toList.drop 0 = dktX5_yOf_0 := by decide +kernel
theorem dX5_yOf_0 : decode cX5_yOf 0 = .ok (.aload_n 0, 1) := dk_42 (dk_at dksX5_yOf_0 0 rfl rfl)
theorem dX5_yOf_1 : decode cX5_yOf 1 = .ok (.getfield 64, 3) := dk_180 0 64 (dk_at dksX5_yOf_0 1 rfl rfl)
theorem dX5_yOf_4 : decode cX5_yOf 4 = .ok (.aload_n 0, 1) := dk_42 (dk_at dksX5_yOf_0 4 rfl rfl)
theorem dX5_yOf_5 : decode cX5_yOf 5 = .ok (.getfield 61, 3) := dk_180 0 61 (dk_at dksX5_yOf_0 5 rfl rfl)
theorem dX5_yOf_8 : decode cX5_yOf 8 = .ok (.iload_n 1, 1) := dk_27 (dk_at dksX5_yOf_0 8 rfl rfl)
theorem dX5_yOf_9 : decode cX5_yOf 9 = .ok (.aload_n 0, 1) := dk_42 (dk_at dksX5_yOf_0 9 rfl rfl)
theorem dX5_yOf_10 : decode cX5_yOf 10 = .ok (.getfield 51, 3) := dk_180 0 51 (dk_at dksX5_yOf_0 10 rfl rfl)
theorem dX5_yOf_13 : decode cX5_yOf 13 = .ok (.idiv, 1) := dk_108 (dk_at dksX5_yOf_0 13 rfl rfl)
theorem dX5_yOf_14 : decode cX5_yOf 14 = .ok (.imul, 1) := dk_104 (dk_at dksX5_yOf_0 14 rfl rfl)
theorem dX5_yOf_15 : decode cX5_yOf 15 = .ok (.iadd, 1) := dk_96 (dk_at dksX5_yOf_0 15 rfl rfl)
theorem dX5_yOf_16 : decode cX5_yOf 16 = .ok (.ireturn, 1) := dk_172 (dk_at dksX5_yOf_0 16 rfl rfl)
abbrev cX5_delay : ByteArray := prog_7_method_5_code
def yX5_delay : MethodName := ⟨RX5, "delay", "(III)I"⟩
def dkwX5_delay_3 : List UInt8 := [180, 0, 84, 108, 42, 180, 0, 77, 42, 180, 0, 84, 108, 100, 172]
abbrev dktX5_delay_3 : List UInt8 := dkwX5_delay_3 ++ []
def dkwX5_delay_2 : List UInt8 := [22, 6, 22, 6, 105, 97, 42, 180, 0, 77, 133, 42, 180, 0, 77, 133, 105, 97, 184, 0, 80, 42]
abbrev dktX5_delay_2 : List UInt8 := dkwX5_delay_2 ++ dktX5_delay_3
def dkwX5_delay_1 : List UInt8 := [180, 0, 14, 27, 185, 0, 67, 2, 0, 192, 0, 73, 180, 0, 76, 100, 133, 55, 6, 22, 4, 22, 4, 105]
abbrev dktX5_delay_1 : List UInt8 := dkwX5_delay_1 ++ dktX5_delay_2
def dkwX5_delay_0 : List UInt8 := [28, 42, 180, 0, 14, 27, 185, 0, 67, 2, 0, 192, 0, 73, 180, 0, 75, 100, 133, 55, 4, 29, 42]
abbrev dktX5_delay_0 : List UInt8 := dkwX5_delay_0 ++ dktX5_delay_1
theorem dksX5_delay_0 : cX5_delay.data.toList.drop 0 = dktX5_delay_0 := by decide +kernel
theorem dksX5_delay_1 : cX5_delay.data.toList.drop 23 = dktX5_delay_1 := dk_seg dksX5_delay_0 23 rfl rfl
theorem dksX5_delay_2 : cX5_delay.data.toList.drop 47 = dktX5_delay_2 := dk_seg dksX5_delay_1 24 rfl rfl
theorem dksX5_delay_3 : cX5_delay.data.toList.drop 69 = dktX5_delay_3 := dk_seg dksX5_delay_2 22 rfl rfl
theorem dX5_delay_0 : decode cX5_delay 0 = .ok (.iload_n 2, 1) := dk_28 (dk_at dksX5_delay_0 0 rfl rfl)
theorem dX5_delay_1 : decode cX5_delay 1 = .ok (.aload_n 0, 1) := dk_42 (dk_at dksX5_delay_0 1 rfl rfl)
theorem dX5_delay_2 : decode cX5_delay 2 = .ok (.getfield 14, 3) := dk_180 0 14 (dk_at dksX5_delay_0 2 rfl rfl)
theorem dX5_delay_5 : decode cX5_delay 5 = .ok (.iload_n 1, 1) := dk_27 (dk_at dksX5_delay_0 5 rfl rfl)
theorem dX5_delay_6 : decode cX5_delay 6 = .ok (.invokeinterface 67 2, 5) := by decide +kernel
theorem dX5_delay_11 : decode cX5_delay 11 = .ok (.checkcast 73, 3) := dk_192 0 73 (dk_at dksX5_delay_0 11 rfl rfl)
theorem dX5_delay_14 : decode cX5_delay 14 = .ok (.getfield 75, 3) := dk_180 0 75 (dk_at dksX5_delay_0 14 rfl rfl)
theorem dX5_delay_17 : decode cX5_delay 17 = .ok (.isub, 1) := dk_100 (dk_at dksX5_delay_0 17 rfl rfl)
theorem dX5_delay_18 : decode cX5_delay 18 = .ok (.i2l, 1) := dk_133 (dk_at dksX5_delay_0 18 rfl rfl)
theorem dX5_delay_19 : decode cX5_delay 19 = .ok (.lstore 4, 2) := dk_55 4 (dk_at dksX5_delay_0 19 rfl rfl)
theorem dX5_delay_21 : decode cX5_delay 21 = .ok (.iload_n 3, 1) := dk_29 (dk_at dksX5_delay_0 21 rfl rfl)
theorem dX5_delay_22 : decode cX5_delay 22 = .ok (.aload_n 0, 1) := dk_42 (dk_at dksX5_delay_0 22 rfl rfl)
theorem dX5_delay_23 : decode cX5_delay 23 = .ok (.getfield 14, 3) := dk_180 0 14 (dk_at dksX5_delay_1 0 rfl rfl)
theorem dX5_delay_26 : decode cX5_delay 26 = .ok (.iload_n 1, 1) := dk_27 (dk_at dksX5_delay_1 3 rfl rfl)
theorem dX5_delay_27 : decode cX5_delay 27 = .ok (.invokeinterface 67 2, 5) := by decide +kernel
theorem dX5_delay_32 : decode cX5_delay 32 = .ok (.checkcast 73, 3) := dk_192 0 73 (dk_at dksX5_delay_1 9 rfl rfl)
theorem dX5_delay_35 : decode cX5_delay 35 = .ok (.getfield 76, 3) := dk_180 0 76 (dk_at dksX5_delay_1 12 rfl rfl)
theorem dX5_delay_38 : decode cX5_delay 38 = .ok (.isub, 1) := dk_100 (dk_at dksX5_delay_1 15 rfl rfl)
theorem dX5_delay_39 : decode cX5_delay 39 = .ok (.i2l, 1) := dk_133 (dk_at dksX5_delay_1 16 rfl rfl)
theorem dX5_delay_40 : decode cX5_delay 40 = .ok (.lstore 6, 2) := dk_55 6 (dk_at dksX5_delay_1 17 rfl rfl)
theorem dX5_delay_42 : decode cX5_delay 42 = .ok (.lload 4, 2) := dk_22 4 (dk_at dksX5_delay_1 19 rfl rfl)
theorem dX5_delay_44 : decode cX5_delay 44 = .ok (.lload 4, 2) := dk_22 4 (dk_at dksX5_delay_1 21 rfl rfl)
theorem dX5_delay_46 : decode cX5_delay 46 = .ok (.lmul, 1) := dk_105 (dk_at dksX5_delay_1 23 rfl rfl)
theorem dX5_delay_47 : decode cX5_delay 47 = .ok (.lload 6, 2) := dk_22 6 (dk_at dksX5_delay_2 0 rfl rfl)
theorem dX5_delay_49 : decode cX5_delay 49 = .ok (.lload 6, 2) := dk_22 6 (dk_at dksX5_delay_2 2 rfl rfl)
theorem dX5_delay_51 : decode cX5_delay 51 = .ok (.lmul, 1) := dk_105 (dk_at dksX5_delay_2 4 rfl rfl)
theorem dX5_delay_52 : decode cX5_delay 52 = .ok (.ladd, 1) := dk_97 (dk_at dksX5_delay_2 5 rfl rfl)
theorem dX5_delay_53 : decode cX5_delay 53 = .ok (.aload_n 0, 1) := dk_42 (dk_at dksX5_delay_2 6 rfl rfl)
theorem dX5_delay_54 : decode cX5_delay 54 = .ok (.getfield 77, 3) := dk_180 0 77 (dk_at dksX5_delay_2 7 rfl rfl)
theorem dX5_delay_57 : decode cX5_delay 57 = .ok (.i2l, 1) := dk_133 (dk_at dksX5_delay_2 10 rfl rfl)
theorem dX5_delay_58 : decode cX5_delay 58 = .ok (.aload_n 0, 1) := dk_42 (dk_at dksX5_delay_2 11 rfl rfl)
theorem dX5_delay_59 : decode cX5_delay 59 = .ok (.getfield 77, 3) := dk_180 0 77 (dk_at dksX5_delay_2 12 rfl rfl)
theorem dX5_delay_62 : decode cX5_delay 62 = .ok (.i2l, 1) := dk_133 (dk_at dksX5_delay_2 15 rfl rfl)
theorem dX5_delay_63 : decode cX5_delay 63 = .ok (.lmul, 1) := dk_105 (dk_at dksX5_delay_2 16 rfl rfl)
theorem dX5_delay_64 : decode cX5_delay 64 = .ok (.ladd, 1) := dk_97 (dk_at dksX5_delay_2 17 rfl rfl)
theorem dX5_delay_65 : decode cX5_delay 65 = .ok (.invokestatic 80, 3) := dk_184 0 80 (dk_at dksX5_delay_2 18 rfl rfl)
theorem dX5_delay_68 : decode cX5_delay 68 = .ok (.aload_n 0, 1) := dk_42 (dk_at dksX5_delay_2 21 rfl rfl)
theorem dX5_delay_69 : decode cX5_delay 69 = .ok (.getfield 84, 3) := dk_180 0 84 (dk_at dksX5_delay_3 0 rfl rfl)
theorem dX5_delay_72 : decode cX5_delay 72 = .ok (.idiv, 1) := dk_108 (dk_at dksX5_delay_3 3 rfl rfl)
theorem dX5_delay_73 : decode cX5_delay 73 = .ok (.aload_n 0, 1) := dk_42 (dk_at dksX5_delay_3 4 rfl rfl)
theorem dX5_delay_74 : decode cX5_delay 74 = .ok (.getfield 77, 3) := dk_180 0 77 (dk_at dksX5_delay_3 5 rfl rfl)
theorem dX5_delay_77 : decode cX5_delay 77 = .ok (.aload_n 0, 1) := dk_42 (dk_at dksX5_delay_3 8 rfl rfl)
theorem dX5_delay_78 : decode cX5_delay 78 = .ok (.getfield 84, 3) := dk_180 0 84 (dk_at dksX5_delay_3 9 rfl rfl)
theorem dX5_delay_81 : decode cX5_delay 81 = .ok (.idiv, 1) := dk_108 (dk_at dksX5_delay_3 12 rfl rfl)
theorem dX5_delay_82 : decode cX5_delay 82 = .ok (.isub, 1) := dk_100 (dk_at dksX5_delay_3 13 rfl rfl)
theorem dX5_delay_83 : decode cX5_delay 83 = .ok (.ireturn, 1) := dk_172 (dk_at dksX5_delay_3 14 rfl rfl)
