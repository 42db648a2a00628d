/-! the tables' words -/
set_option maxRecDepth 100000
theorem q136 : (Jvm.Cond.initialized "AcousticCameraLaw") ∈ lw_all := lw_g (lw_at lw_m1 0 rfl) rfl
theorem q191 : (Jvm.Cond.classLink "AcousticCameraLaw" (8 : Nat) "AcousticCamera") ∈ lw_all := lw_g (lw_at lw_m1 55 rfl) rfl
theorem q193 : (Jvm.Cond.methodLink "AcousticCameraLaw" (189 : Nat) ({ cls := "AcousticCamera", name := "<init>", desc := "()V" } : Jvm.MethodName)) ∈ lw_all := lw_g (lw_at lw_m1 57 rfl) rfl
theorem q280 : (Jvm.Cond.methodLink "AcousticCameraLaw" (193 : Nat) ({ cls := "AcousticCamera", name := "append", desc := "(IIIII)I" } : Jvm.MethodName)) ∈ lw_all := lw_g (lw_at lw_m1 144 rfl) rfl
theorem q285 : (Jvm.Cond.methodLink "AcousticCameraLaw" (207 : Nat) ({ cls := "AcousticCamera", name := "parseError", desc := "()I" } : Jvm.MethodName)) ∈ lw_all := lw_g (lw_at lw_m1 149 rfl) rfl
theorem q289 : (Jvm.Cond.methodLink "AcousticCameraLaw" (211 : Nat) ({ cls := "AcousticCamera", name := "errorPosition", desc := "()I" } : Jvm.MethodName)) ∈ lw_all := lw_g (lw_at lw_m1 153 rfl) rfl
theorem q293 : (Jvm.Cond.methodLink "AcousticCameraLaw" (215 : Nat) ({ cls := "AcousticCamera", name := "buffered", desc := "()I" } : Jvm.MethodName)) ∈ lw_all := lw_g (lw_at lw_m1 157 rfl) rfl
theorem q297 : (Jvm.Cond.methodLink "AcousticCameraLaw" (219 : Nat) ({ cls := "AcousticCamera", name := "mics", desc := "()I" } : Jvm.MethodName)) ∈ lw_all := lw_g (lw_at lw_m1 161 rfl) rfl
theorem q331 : (Jvm.Cond.methodLink "AcousticCameraLaw" (230 : Nat) ({ cls := "AcousticCamera", name := "columns", desc := "()I" } : Jvm.MethodName)) ∈ lw_all := lw_g (lw_at lw_m1 195 rfl) rfl
theorem q335 : (Jvm.Cond.methodLink "AcousticCameraLaw" (234 : Nat) ({ cls := "AcousticCamera", name := "rows", desc := "()I" } : Jvm.MethodName)) ∈ lw_all := lw_g (lw_at lw_m1 199 rfl) rfl
theorem q339 : (Jvm.Cond.methodLink "AcousticCameraLaw" (241 : Nat) ({ cls := "AcousticCamera", name := "sources", desc := "()I" } : Jvm.MethodName)) ∈ lw_all := lw_g (lw_at lw_m1 203 rfl) rfl
theorem q343 : (Jvm.Cond.methodLink "AcousticCameraLaw" (255 : Nat) ({ cls := "AcousticCamera", name := "samples", desc := "()I" } : Jvm.MethodName)) ∈ lw_all := lw_g (lw_at lw_m1 207 rfl) rfl
theorem q347 : (Jvm.Cond.methodLink "AcousticCameraLaw" (397 : Nat) ({ cls := "AcousticCamera", name := "undoable", desc := "()I" } : Jvm.MethodName)) ∈ lw_all := lw_g (lw_at lw_m1 211 rfl) rfl
theorem q358 : (Jvm.Cond.methodLink "AcousticCameraLaw" (198 : Nat) ({ cls := "AcousticCameraLaw", name := "load", desc := "(LAcousticCamera;I[J)I" } : Jvm.MethodName)) ∈ lw_all := lw_g (lw_at lw_m1 222 rfl) rfl
theorem q359 : (Jvm.Cond.static ({ cls := "AcousticCameraLaw", name := "load", desc := "(LAcousticCamera;I[J)I" } : Jvm.MethodName)) ∈ lw_all := lw_g (lw_at lw_m1 223 rfl) rfl
theorem q360 : (Jvm.Cond.codeWith ({ cls := "AcousticCameraLaw", name := "load", desc := "(LAcousticCamera;I[J)I" } : Jvm.MethodName) method_3_code (4 : Nat) (Option.some Jvm.ClassFile.FieldType.int) [((0 : Nat), (9 : Nat), (12 : Nat), (13 : Nat)), ((0 : Nat), (9 : Nat), (15 : Nat), (15 : Nat))]) ∈ lw_all := lw_g (lw_at lw_m1 224 rfl) rfl
theorem q361 : (Jvm.Cond.classLink "AcousticCameraLaw" (13 : Nat) "java/lang/IndexOutOfBoundsException") ∈ lw_all := lw_g (lw_at lw_m1 225 rfl) rfl
theorem q440 : (Jvm.Cond.classLink "AcousticCameraLaw" (15 : Nat) "java/lang/IllegalArgumentException") ∈ lw_all := lw_g (lw_at lw_m2 64 rfl) rfl
theorem q441 : (Jvm.Cond.methodLink "AcousticCameraLaw" (7 : Nat) ({ cls := "AcousticCamera", name := "load", desc := "(I)I" } : Jvm.MethodName)) ∈ lw_all := lw_g (lw_at lw_m2 65 rfl) rfl
theorem q1785 : (Jvm.Cond.methodLink "AcousticCameraLaw" (223 : Nat) ({ cls := "AcousticCameraLaw", name := "micAt", desc := "(LAcousticCamera;II[J)I" } : Jvm.MethodName)) ∈ lw_all := lw_g (lw_at lw_m7 209 rfl) rfl
theorem q1786 : (Jvm.Cond.static ({ cls := "AcousticCameraLaw", name := "micAt", desc := "(LAcousticCamera;II[J)I" } : Jvm.MethodName)) ∈ lw_all := lw_g (lw_at lw_m7 210 rfl) rfl
theorem q1787 : (Jvm.Cond.codeWith ({ cls := "AcousticCameraLaw", name := "micAt", desc := "(LAcousticCamera;II[J)I" } : Jvm.MethodName) method_4_code (5 : Nat) (Option.some Jvm.ClassFile.FieldType.int) [((0 : Nat), (10 : Nat), (13 : Nat), (21 : Nat)), ((0 : Nat), (10 : Nat), (17 : Nat), (13 : Nat)), ((0 : Nat), (10 : Nat), (21 : Nat), (15 : Nat))]) ∈ lw_all := lw_g (lw_at lw_m7 211 rfl) rfl
theorem q1788 : (Jvm.Cond.classLink "AcousticCameraLaw" (21 : Nat) "java/lang/IllegalStateException") ∈ lw_all := lw_g (lw_at lw_m7 212 rfl) rfl
theorem q1789 : (Jvm.Cond.methodLink "AcousticCameraLaw" (17 : Nat) ({ cls := "AcousticCamera", name := "micAt", desc := "(II)I" } : Jvm.MethodName)) ∈ lw_all := lw_g (lw_at lw_m7 213 rfl) rfl
theorem q1826 : (Jvm.Cond.methodLink "AcousticCameraLaw" (227 : Nat) ({ cls := "AcousticCameraLaw", name := "isMuted", desc := "(LAcousticCamera;I[J)I" } : Jvm.MethodName)) ∈ lw_all := lw_g (lw_at lw_m8 10 rfl) rfl
theorem q1827 : (Jvm.Cond.static ({ cls := "AcousticCameraLaw", name := "isMuted", desc := "(LAcousticCamera;I[J)I" } : Jvm.MethodName)) ∈ lw_all := lw_g (lw_at lw_m8 11 rfl) rfl
theorem q1828 : (Jvm.Cond.codeWith ({ cls := "AcousticCameraLaw", name := "isMuted", desc := "(LAcousticCamera;I[J)I" } : Jvm.MethodName) method_5_code (4 : Nat) (Option.some Jvm.ClassFile.FieldType.int) [((0 : Nat), (16 : Nat), (19 : Nat), (21 : Nat)), ((0 : Nat), (16 : Nat), (22 : Nat), (13 : Nat))]) ∈ lw_all := lw_g (lw_at lw_m8 12 rfl) rfl
theorem q1829 : (Jvm.Cond.methodLink "AcousticCameraLaw" (23 : Nat) ({ cls := "AcousticCamera", name := "isMuted", desc := "(I)Z" } : Jvm.MethodName)) ∈ lw_all := lw_g (lw_at lw_m8 13 rfl) rfl
theorem q1838 : (Jvm.Cond.methodLink "AcousticCameraLaw" (238 : Nat) ({ cls := "AcousticCameraLaw", name := "cellAt", desc := "(LAcousticCamera;II[J)I" } : Jvm.MethodName)) ∈ lw_all := lw_g (lw_at lw_m8 22 rfl) rfl
theorem q1839 : (Jvm.Cond.static ({ cls := "AcousticCameraLaw", name := "cellAt", desc := "(LAcousticCamera;II[J)I" } : Jvm.MethodName)) ∈ lw_all := lw_g (lw_at lw_m8 23 rfl) rfl
theorem q1840 : (Jvm.Cond.codeWith ({ cls := "AcousticCameraLaw", name := "cellAt", desc := "(LAcousticCamera;II[J)I" } : Jvm.MethodName) method_6_code (5 : Nat) (Option.some Jvm.ClassFile.FieldType.int) [((0 : Nat), (10 : Nat), (13 : Nat), (21 : Nat)), ((0 : Nat), (10 : Nat), (17 : Nat), (13 : Nat)), ((0 : Nat), (10 : Nat), (21 : Nat), (15 : Nat))]) ∈ lw_all := lw_g (lw_at lw_m8 24 rfl) rfl
theorem q1841 : (Jvm.Cond.methodLink "AcousticCameraLaw" (27 : Nat) ({ cls := "AcousticCamera", name := "cellAt", desc := "(II)I" } : Jvm.MethodName)) ∈ lw_all := lw_g (lw_at lw_m8 25 rfl) rfl
theorem q1851 : (Jvm.Cond.methodLink "AcousticCameraLaw" (245 : Nat) ({ cls := "AcousticCameraLaw", name := "sourceAt", desc := "(LAcousticCamera;III[J)I" } : Jvm.MethodName)) ∈ lw_all := lw_g (lw_at lw_m8 35 rfl) rfl
theorem q1852 : (Jvm.Cond.static ({ cls := "AcousticCameraLaw", name := "sourceAt", desc := "(LAcousticCamera;III[J)I" } : Jvm.MethodName)) ∈ lw_all := lw_g (lw_at lw_m8 36 rfl) rfl
theorem q1853 : (Jvm.Cond.codeWith ({ cls := "AcousticCameraLaw", name := "sourceAt", desc := "(LAcousticCamera;III[J)I" } : Jvm.MethodName) method_7_code (6 : Nat) (Option.some Jvm.ClassFile.FieldType.int) [((0 : Nat), (12 : Nat), (15 : Nat), (21 : Nat)), ((0 : Nat), (12 : Nat), (19 : Nat), (13 : Nat)), ((0 : Nat), (12 : Nat), (23 : Nat), (15 : Nat))]) ∈ lw_all := lw_g (lw_at lw_m8 37 rfl) rfl
theorem q1854 : (Jvm.Cond.methodLink "AcousticCameraLaw" (30 : Nat) ({ cls := "AcousticCamera", name := "sourceAt", desc := "(III)I" } : Jvm.MethodName)) ∈ lw_all := lw_g (lw_at lw_m8 38 rfl) rfl
theorem q1868 : (Jvm.Cond.methodLink "AcousticCameraLaw" (249 : Nat) ({ cls := "AcousticCameraLaw", name := "isOn", desc := "(LAcousticCamera;I[J)I" } : Jvm.MethodName)) ∈ lw_all := lw_g (lw_at lw_m8 52 rfl) rfl
theorem q1869 : (Jvm.Cond.static ({ cls := "AcousticCameraLaw", name := "isOn", desc := "(LAcousticCamera;I[J)I" } : Jvm.MethodName)) ∈ lw_all := lw_g (lw_at lw_m8 53 rfl) rfl
theorem q1870 : (Jvm.Cond.codeWith ({ cls := "AcousticCameraLaw", name := "isOn", desc := "(LAcousticCamera;I[J)I" } : Jvm.MethodName) method_8_code (4 : Nat) (Option.some Jvm.ClassFile.FieldType.int) [((0 : Nat), (16 : Nat), (19 : Nat), (21 : Nat)), ((0 : Nat), (16 : Nat), (22 : Nat), (13 : Nat))]) ∈ lw_all := lw_g (lw_at lw_m8 54 rfl) rfl
theorem q1871 : (Jvm.Cond.methodLink "AcousticCameraLaw" (34 : Nat) ({ cls := "AcousticCamera", name := "isOn", desc := "(I)Z" } : Jvm.MethodName)) ∈ lw_all := lw_g (lw_at lw_m8 55 rfl) rfl
theorem q1876 : (Jvm.Cond.methodLink "AcousticCameraLaw" (252 : Nat) ({ cls := "AcousticCameraLaw", name := "waveAt", desc := "(LAcousticCamera;II[J)I" } : Jvm.MethodName)) ∈ lw_all := lw_g (lw_at lw_m8 60 rfl) rfl
theorem q1877 : (Jvm.Cond.static ({ cls := "AcousticCameraLaw", name := "waveAt", desc := "(LAcousticCamera;II[J)I" } : Jvm.MethodName)) ∈ lw_all := lw_g (lw_at lw_m8 61 rfl) rfl
theorem q1878 : (Jvm.Cond.codeWith ({ cls := "AcousticCameraLaw", name := "waveAt", desc := "(LAcousticCamera;II[J)I" } : Jvm.MethodName) method_9_code (5 : Nat) (Option.some Jvm.ClassFile.FieldType.int) [((0 : Nat), (10 : Nat), (13 : Nat), (21 : Nat)), ((0 : Nat), (10 : Nat), (17 : Nat), (13 : Nat)), ((0 : Nat), (10 : Nat), (21 : Nat), (15 : Nat))]) ∈ lw_all := lw_g (lw_at lw_m8 62 rfl) rfl
theorem q1879 : (Jvm.Cond.methodLink "AcousticCameraLaw" (37 : Nat) ({ cls := "AcousticCamera", name := "waveAt", desc := "(II)I" } : Jvm.MethodName)) ∈ lw_all := lw_g (lw_at lw_m8 63 rfl) rfl
theorem q1884 : (Jvm.Cond.methodLink "AcousticCameraLaw" (259 : Nat) ({ cls := "AcousticCameraLaw", name := "delay", desc := "(LAcousticCamera;II[J)I" } : Jvm.MethodName)) ∈ lw_all := lw_g (lw_at lw_m8 68 rfl) rfl
theorem q1885 : (Jvm.Cond.static ({ cls := "AcousticCameraLaw", name := "delay", desc := "(LAcousticCamera;II[J)I" } : Jvm.MethodName)) ∈ lw_all := lw_g (lw_at lw_m8 69 rfl) rfl
theorem q1886 : (Jvm.Cond.codeWith ({ cls := "AcousticCameraLaw", name := "delay", desc := "(LAcousticCamera;II[J)I" } : Jvm.MethodName) method_10_code (5 : Nat) (Option.some Jvm.ClassFile.FieldType.int) [((0 : Nat), (10 : Nat), (13 : Nat), (21 : Nat)), ((0 : Nat), (10 : Nat), (17 : Nat), (13 : Nat))]) ∈ lw_all := lw_g (lw_at lw_m8 70 rfl) rfl
theorem q1887 : (Jvm.Cond.methodLink "AcousticCameraLaw" (40 : Nat) ({ cls := "AcousticCamera", name := "delay", desc := "(II)I" } : Jvm.MethodName)) ∈ lw_all := lw_g (lw_at lw_m8 71 rfl) rfl
theorem q1891 : (Jvm.Cond.methodLink "AcousticCameraLaw" (262 : Nat) ({ cls := "AcousticCameraLaw", name := "delayTo", desc := "(LAcousticCamera;III[J)I" } : Jvm.MethodName)) ∈ lw_all := lw_g (lw_at lw_m8 75 rfl) rfl
theorem q1892 : (Jvm.Cond.static ({ cls := "AcousticCameraLaw", name := "delayTo", desc := "(LAcousticCamera;III[J)I" } : Jvm.MethodName)) ∈ lw_all := lw_g (lw_at lw_m8 76 rfl) rfl
theorem q1893 : (Jvm.Cond.codeWith ({ cls := "AcousticCameraLaw", name := "delayTo", desc := "(LAcousticCamera;III[J)I" } : Jvm.MethodName) method_11_code (6 : Nat) (Option.some Jvm.ClassFile.FieldType.int) [((0 : Nat), (12 : Nat), (15 : Nat), (21 : Nat)), ((0 : Nat), (12 : Nat), (19 : Nat), (13 : Nat)), ((0 : Nat), (12 : Nat), (23 : Nat), (15 : Nat))]) ∈ lw_all := lw_g (lw_at lw_m8 77 rfl) rfl
theorem q1894 : (Jvm.Cond.methodLink "AcousticCameraLaw" (43 : Nat) ({ cls := "AcousticCamera", name := "delayTo", desc := "(III)I" } : Jvm.MethodName)) ∈ lw_all := lw_g (lw_at lw_m8 78 rfl) rfl
theorem q1904 : (Jvm.Cond.methodLink "AcousticCameraLaw" (265 : Nat) ({ cls := "AcousticCameraLaw", name := "spread", desc := "(LAcousticCamera;I[J)I" } : Jvm.MethodName)) ∈ lw_all := lw_g (lw_at lw_m8 88 rfl) rfl
theorem q1905 : (Jvm.Cond.static ({ cls := "AcousticCameraLaw", name := "spread", desc := "(LAcousticCamera;I[J)I" } : Jvm.MethodName)) ∈ lw_all := lw_g (lw_at lw_m8 89 rfl) rfl
theorem q1906 : (Jvm.Cond.codeWith ({ cls := "AcousticCameraLaw", name := "spread", desc := "(LAcousticCamera;I[J)I" } : Jvm.MethodName) method_12_code (4 : Nat) (Option.some Jvm.ClassFile.FieldType.int) [((0 : Nat), (9 : Nat), (12 : Nat), (21 : Nat)), ((0 : Nat), (9 : Nat), (15 : Nat), (13 : Nat))]) ∈ lw_all := lw_g (lw_at lw_m8 90 rfl) rfl
theorem q1907 : (Jvm.Cond.methodLink "AcousticCameraLaw" (46 : Nat) ({ cls := "AcousticCamera", name := "spread", desc := "(I)I" } : Jvm.MethodName)) ∈ lw_all := lw_g (lw_at lw_m8 91 rfl) rfl
theorem q1920 : (Jvm.Cond.methodLink "AcousticCameraLaw" (268 : Nat) ({ cls := "AcousticCameraLaw", name := "window", desc := "(LAcousticCamera;I[J)I" } : Jvm.MethodName)) ∈ lw_all := lw_g (lw_at lw_m8 104 rfl) rfl
theorem q1921 : (Jvm.Cond.static ({ cls := "AcousticCameraLaw", name := "window", desc := "(LAcousticCamera;I[J)I" } : Jvm.MethodName)) ∈ lw_all := lw_g (lw_at lw_m8 105 rfl) rfl
theorem q1922 : (Jvm.Cond.codeWith ({ cls := "AcousticCameraLaw", name := "window", desc := "(LAcousticCamera;I[J)I" } : Jvm.MethodName) method_13_code (4 : Nat) (Option.some Jvm.ClassFile.FieldType.int) [((0 : Nat), (9 : Nat), (12 : Nat), (21 : Nat)), ((0 : Nat), (9 : Nat), (15 : Nat), (13 : Nat))]) ∈ lw_all := lw_g (lw_at lw_m8 106 rfl) rfl
theorem q1923 : (Jvm.Cond.methodLink "AcousticCameraLaw" (49 : Nat) ({ cls := "AcousticCamera", name := "window", desc := "(I)I" } : Jvm.MethodName)) ∈ lw_all := lw_g (lw_at lw_m8 107 rfl) rfl
theorem q1931 : (Jvm.Cond.methodLink "AcousticCameraLaw" (271 : Nat) ({ cls := "AcousticCameraLaw", name := "sample", desc := "(LAcousticCamera;II[J)I" } : Jvm.MethodName)) ∈ lw_all := lw_g (lw_at lw_m8 115 rfl) rfl
theorem q1932 : (Jvm.Cond.static ({ cls := "AcousticCameraLaw", name := "sample", desc := "(LAcousticCamera;II[J)I" } : Jvm.MethodName)) ∈ lw_all := lw_g (lw_at lw_m8 116 rfl) rfl
theorem q1933 : (Jvm.Cond.codeWith ({ cls := "AcousticCameraLaw", name := "sample", desc := "(LAcousticCamera;II[J)I" } : Jvm.MethodName) method_14_code (5 : Nat) (Option.some Jvm.ClassFile.FieldType.int) [((0 : Nat), (10 : Nat), (13 : Nat), (21 : Nat)), ((0 : Nat), (10 : Nat), (17 : Nat), (13 : Nat)), ((0 : Nat), (10 : Nat), (21 : Nat), (15 : Nat))]) ∈ lw_all := lw_g (lw_at lw_m8 117 rfl) rfl
theorem q1934 : (Jvm.Cond.methodLink "AcousticCameraLaw" (52 : Nat) ({ cls := "AcousticCamera", name := "sample", desc := "(II)I" } : Jvm.MethodName)) ∈ lw_all := lw_g (lw_at lw_m8 118 rfl) rfl
theorem q1938 : (Jvm.Cond.methodLink "AcousticCameraLaw" (274 : Nat) ({ cls := "AcousticCameraLaw", name := "beam", desc := "(LAcousticCamera;II[J)I" } : Jvm.MethodName)) ∈ lw_all := lw_g (lw_at lw_m8 122 rfl) rfl
theorem q1939 : (Jvm.Cond.static ({ cls := "AcousticCameraLaw", name := "beam", desc := "(LAcousticCamera;II[J)I" } : Jvm.MethodName)) ∈ lw_all := lw_g (lw_at lw_m8 123 rfl) rfl
theorem q1940 : (Jvm.Cond.codeWith ({ cls := "AcousticCameraLaw", name := "beam", desc := "(LAcousticCamera;II[J)I" } : Jvm.MethodName) method_15_code (5 : Nat) (Option.some Jvm.ClassFile.FieldType.int) [((0 : Nat), (10 : Nat), (13 : Nat), (21 : Nat)), ((0 : Nat), (10 : Nat), (17 : Nat), (13 : Nat)), ((0 : Nat), (10 : Nat), (21 : Nat), (15 : Nat))]) ∈ lw_all := lw_g (lw_at lw_m8 124 rfl) rfl
theorem q1941 : (Jvm.Cond.methodLink "AcousticCameraLaw" (55 : Nat) ({ cls := "AcousticCamera", name := "beam", desc := "(II)I" } : Jvm.MethodName)) ∈ lw_all := lw_g (lw_at lw_m8 125 rfl) rfl
theorem q1949 : (Jvm.Cond.methodLink "AcousticCameraLaw" (277 : Nat) ({ cls := "AcousticCameraLaw", name := "power", desc := "(LAcousticCamera;I[J)I" } : Jvm.MethodName)) ∈ lw_all := lw_g (lw_at lw_m8 133 rfl) rfl
theorem q1950 : (Jvm.Cond.static ({ cls := "AcousticCameraLaw", name := "power", desc := "(LAcousticCamera;I[J)I" } : Jvm.MethodName)) ∈ lw_all := lw_g (lw_at lw_m8 134 rfl) rfl
theorem q1951 : (Jvm.Cond.codeWith ({ cls := "AcousticCameraLaw", name := "power", desc := "(LAcousticCamera;I[J)I" } : Jvm.MethodName) method_16_code (4 : Nat) (Option.some Jvm.ClassFile.FieldType.int) [((0 : Nat), (8 : Nat), (11 : Nat), (21 : Nat)), ((0 : Nat), (8 : Nat), (14 : Nat), (13 : Nat))]) ∈ lw_all := lw_g (lw_at lw_m8 135 rfl) rfl
theorem q1952 : (Jvm.Cond.methodLink "AcousticCameraLaw" (58 : Nat) ({ cls := "AcousticCamera", name := "power", desc := "(I)J" } : Jvm.MethodName)) ∈ lw_all := lw_g (lw_at lw_m8 136 rfl) rfl
theorem q1971 : (Jvm.Cond.methodLink "AcousticCameraLaw" (280 : Nat) ({ cls := "AcousticCameraLaw", name := "powerAt", desc := "(LAcousticCamera;II[J)I" } : Jvm.MethodName)) ∈ lw_all := lw_g (lw_at lw_m8 155 rfl) rfl
theorem q1972 : (Jvm.Cond.static ({ cls := "AcousticCameraLaw", name := "powerAt", desc := "(LAcousticCamera;II[J)I" } : Jvm.MethodName)) ∈ lw_all := lw_g (lw_at lw_m8 156 rfl) rfl
theorem q1973 : (Jvm.Cond.codeWith ({ cls := "AcousticCameraLaw", name := "powerAt", desc := "(LAcousticCamera;II[J)I" } : Jvm.MethodName) method_17_code (5 : Nat) (Option.some Jvm.ClassFile.FieldType.int) [((0 : Nat), (9 : Nat), (12 : Nat), (21 : Nat)), ((0 : Nat), (9 : Nat), (16 : Nat), (15 : Nat))]) ∈ lw_all := lw_g (lw_at lw_m8 157 rfl) rfl
theorem q1974 : (Jvm.Cond.methodLink "AcousticCameraLaw" (62 : Nat) ({ cls := "AcousticCamera", name := "powerAt", desc := "(II)J" } : Jvm.MethodName)) ∈ lw_all := lw_g (lw_at lw_m8 158 rfl) rfl
theorem q1986 : (Jvm.Cond.methodLink "AcousticCameraLaw" (283 : Nat) ({ cls := "AcousticCameraLaw", name := "best", desc := "(LAcousticCamera;[J)I" } : Jvm.MethodName)) ∈ lw_all := lw_g (lw_at lw_m8 170 rfl) rfl
theorem q1987 : (Jvm.Cond.static ({ cls := "AcousticCameraLaw", name := "best", desc := "(LAcousticCamera;[J)I" } : Jvm.MethodName)) ∈ lw_all := lw_g (lw_at lw_m8 171 rfl) rfl
theorem q1988 : (Jvm.Cond.codeWith ({ cls := "AcousticCameraLaw", name := "best", desc := "(LAcousticCamera;[J)I" } : Jvm.MethodName) method_18_code (3 : Nat) (Option.some Jvm.ClassFile.FieldType.int) [((0 : Nat), (8 : Nat), (11 : Nat), (21 : Nat))]) ∈ lw_all := lw_g (lw_at lw_m8 172 rfl) rfl
theorem q1989 : (Jvm.Cond.methodLink "AcousticCameraLaw" (66 : Nat) ({ cls := "AcousticCamera", name := "best", desc := "()I" } : Jvm.MethodName)) ∈ lw_all := lw_g (lw_at lw_m8 173 rfl) rfl
theorem q2007 : (Jvm.Cond.methodLink "AcousticCameraLaw" (287 : Nat) ({ cls := "AcousticCameraLaw", name := "bestPower", desc := "(LAcousticCamera;[J)I" } : Jvm.MethodName)) ∈ lw_all := lw_g (lw_at lw_m8 191 rfl) rfl
theorem q2008 : (Jvm.Cond.static ({ cls := "AcousticCameraLaw", name := "bestPower", desc := "(LAcousticCamera;[J)I" } : Jvm.MethodName)) ∈ lw_all := lw_g (lw_at lw_m8 192 rfl) rfl
theorem q2009 : (Jvm.Cond.codeWith ({ cls := "AcousticCameraLaw", name := "bestPower", desc := "(LAcousticCamera;[J)I" } : Jvm.MethodName) method_19_code (3 : Nat) (Option.some Jvm.ClassFile.FieldType.int) [((0 : Nat), (7 : Nat), (10 : Nat), (21 : Nat))]) ∈ lw_all := lw_g (lw_at lw_m8 193 rfl) rfl
theorem q2010 : (Jvm.Cond.methodLink "AcousticCameraLaw" (70 : Nat) ({ cls := "AcousticCamera", name := "bestPower", desc := "()J" } : Jvm.MethodName)) ∈ lw_all := lw_g (lw_at lw_m8 194 rfl) rfl
theorem q2014 : (Jvm.Cond.methodLink "AcousticCameraLaw" (290 : Nat) ({ cls := "AcousticCameraLaw", name := "meanPower", desc := "(LAcousticCamera;[J)I" } : Jvm.MethodName)) ∈ lw_all := lw_g (lw_at lw_m8 198 rfl) rfl
theorem q2015 : (Jvm.Cond.static ({ cls := "AcousticCameraLaw", name := "meanPower", desc := "(LAcousticCamera;[J)I" } : Jvm.MethodName)) ∈ lw_all := lw_g (lw_at lw_m8 199 rfl) rfl
theorem q2016 : (Jvm.Cond.codeWith ({ cls := "AcousticCameraLaw", name := "meanPower", desc := "(LAcousticCamera;[J)I" } : Jvm.MethodName) method_20_code (3 : Nat) (Option.some Jvm.ClassFile.FieldType.int) [((0 : Nat), (7 : Nat), (10 : Nat), (21 : Nat))]) ∈ lw_all := lw_g (lw_at lw_m8 200 rfl) rfl
theorem q2017 : (Jvm.Cond.methodLink "AcousticCameraLaw" (74 : Nat) ({ cls := "AcousticCamera", name := "meanPower", desc := "()J" } : Jvm.MethodName)) ∈ lw_all := lw_g (lw_at lw_m8 201 rfl) rfl
theorem q2021 : (Jvm.Cond.methodLink "AcousticCameraLaw" (293 : Nat) ({ cls := "AcousticCameraLaw", name := "peaks", desc := "(LAcousticCamera;[J)I" } : Jvm.MethodName)) ∈ lw_all := lw_g (lw_at lw_m8 205 rfl) rfl
theorem q2022 : (Jvm.Cond.static ({ cls := "AcousticCameraLaw", name := "peaks", desc := "(LAcousticCamera;[J)I" } : Jvm.MethodName)) ∈ lw_all := lw_g (lw_at lw_m8 206 rfl) rfl
theorem q2023 : (Jvm.Cond.codeWith ({ cls := "AcousticCameraLaw", name := "peaks", desc := "(LAcousticCamera;[J)I" } : Jvm.MethodName) method_21_code (3 : Nat) (Option.some Jvm.ClassFile.FieldType.int) [((0 : Nat), (8 : Nat), (11 : Nat), (21 : Nat))]) ∈ lw_all := lw_g (lw_at lw_m8 207 rfl) rfl
theorem q2024 : (Jvm.Cond.methodLink "AcousticCameraLaw" (77 : Nat) ({ cls := "AcousticCamera", name := "peaks", desc := "()I" } : Jvm.MethodName)) ∈ lw_all := lw_g (lw_at lw_m8 208 rfl) rfl
theorem q2041 : (Jvm.Cond.methodLink "AcousticCameraLaw" (296 : Nat) ({ cls := "AcousticCameraLaw", name := "peakAt", desc := "(LAcousticCamera;I[J)I" } : Jvm.MethodName)) ∈ lw_all := lw_g (lw_at lw_m8 225 rfl) rfl
theorem q2042 : (Jvm.Cond.static ({ cls := "AcousticCameraLaw", name := "peakAt", desc := "(LAcousticCamera;I[J)I" } : Jvm.MethodName)) ∈ lw_all := lw_g (lw_at lw_m8 226 rfl) rfl
theorem q2043 : (Jvm.Cond.codeWith ({ cls := "AcousticCameraLaw", name := "peakAt", desc := "(LAcousticCamera;I[J)I" } : Jvm.MethodName) method_22_code (4 : Nat) (Option.some Jvm.ClassFile.FieldType.int) [((0 : Nat), (9 : Nat), (12 : Nat), (21 : Nat)), ((0 : Nat), (9 : Nat), (15 : Nat), (13 : Nat))]) ∈ lw_all := lw_g (lw_at lw_m8 227 rfl) rfl
theorem q2044 : (Jvm.Cond.methodLink "AcousticCameraLaw" (80 : Nat) ({ cls := "AcousticCamera", name := "peakAt", desc := "(I)I" } : Jvm.MethodName)) ∈ lw_all := lw_g (lw_at lw_m8 228 rfl) rfl
theorem q2331 : (Jvm.Cond.methodLink "AcousticCameraLaw" (299 : Nat) ({ cls := "AcousticCameraLaw", name := "isPeak", desc := "(LAcousticCamera;I[J)I" } : Jvm.MethodName)) ∈ lw_all := lw_g (lw_at lw_m10 35 rfl) rfl
theorem q2332 : (Jvm.Cond.static ({ cls := "AcousticCameraLaw", name := "isPeak", desc := "(LAcousticCamera;I[J)I" } : Jvm.MethodName)) ∈ lw_all := lw_g (lw_at lw_m10 36 rfl) rfl
theorem q2333 : (Jvm.Cond.codeWith ({ cls := "AcousticCameraLaw", name := "isPeak", desc := "(LAcousticCamera;I[J)I" } : Jvm.MethodName) method_23_code (4 : Nat) (Option.some Jvm.ClassFile.FieldType.int) [((0 : Nat), (16 : Nat), (19 : Nat), (21 : Nat)), ((0 : Nat), (16 : Nat), (22 : Nat), (13 : Nat))]) ∈ lw_all := lw_g (lw_at lw_m10 37 rfl) rfl
theorem q2334 : (Jvm.Cond.methodLink "AcousticCameraLaw" (83 : Nat) ({ cls := "AcousticCamera", name := "isPeak", desc := "(I)Z" } : Jvm.MethodName)) ∈ lw_all := lw_g (lw_at lw_m10 38 rfl) rfl
theorem q2338 : (Jvm.Cond.methodLink "AcousticCameraLaw" (302 : Nat) ({ cls := "AcousticCameraLaw", name := "zonePower", desc := "(LAcousticCamera;I[J)I" } : Jvm.MethodName)) ∈ lw_all := lw_g (lw_at lw_m10 42 rfl) rfl
theorem q2339 : (Jvm.Cond.static ({ cls := "AcousticCameraLaw", name := "zonePower", desc := "(LAcousticCamera;I[J)I" } : Jvm.MethodName)) ∈ lw_all := lw_g (lw_at lw_m10 43 rfl) rfl
theorem q2340 : (Jvm.Cond.codeWith ({ cls := "AcousticCameraLaw", name := "zonePower", desc := "(LAcousticCamera;I[J)I" } : Jvm.MethodName) method_24_code (4 : Nat) (Option.some Jvm.ClassFile.FieldType.int) [((0 : Nat), (8 : Nat), (11 : Nat), (21 : Nat)), ((0 : Nat), (8 : Nat), (14 : Nat), (13 : Nat))]) ∈ lw_all := lw_g (lw_at lw_m10 44 rfl) rfl
theorem q2341 : (Jvm.Cond.methodLink "AcousticCameraLaw" (86 : Nat) ({ cls := "AcousticCamera", name := "zonePower", desc := "(I)J" } : Jvm.MethodName)) ∈ lw_all := lw_g (lw_at lw_m10 45 rfl) rfl
theorem q2359 : (Jvm.Cond.methodLink "AcousticCameraLaw" (305 : Nat) ({ cls := "AcousticCameraLaw", name := "zoneBest", desc := "(LAcousticCamera;I[J)I" } : Jvm.MethodName)) ∈ lw_all := lw_g (lw_at lw_m10 63 rfl) rfl
theorem q2360 : (Jvm.Cond.static ({ cls := "AcousticCameraLaw", name := "zoneBest", desc := "(LAcousticCamera;I[J)I" } : Jvm.MethodName)) ∈ lw_all := lw_g (lw_at lw_m10 64 rfl) rfl
theorem q2361 : (Jvm.Cond.codeWith ({ cls := "AcousticCameraLaw", name := "zoneBest", desc := "(LAcousticCamera;I[J)I" } : Jvm.MethodName) method_25_code (4 : Nat) (Option.some Jvm.ClassFile.FieldType.int) [((0 : Nat), (9 : Nat), (12 : Nat), (21 : Nat)), ((0 : Nat), (9 : Nat), (15 : Nat), (13 : Nat))]) ∈ lw_all := lw_g (lw_at lw_m10 65 rfl) rfl
theorem q2362 : (Jvm.Cond.methodLink "AcousticCameraLaw" (89 : Nat) ({ cls := "AcousticCamera", name := "zoneBest", desc := "(I)I" } : Jvm.MethodName)) ∈ lw_all := lw_g (lw_at lw_m10 66 rfl) rfl
theorem q2370 : (Jvm.Cond.methodLink "AcousticCameraLaw" (308 : Nat) ({ cls := "AcousticCameraLaw", name := "contrast", desc := "(LAcousticCamera;[D)I" } : Jvm.MethodName)) ∈ lw_all := lw_g (lw_at lw_m10 74 rfl) rfl
theorem q2371 : (Jvm.Cond.static ({ cls := "AcousticCameraLaw", name := "contrast", desc := "(LAcousticCamera;[D)I" } : Jvm.MethodName)) ∈ lw_all := lw_g (lw_at lw_m10 75 rfl) rfl
theorem q2372 : (Jvm.Cond.codeWith ({ cls := "AcousticCameraLaw", name := "contrast", desc := "(LAcousticCamera;[D)I" } : Jvm.MethodName) method_26_code (3 : Nat) (Option.some Jvm.ClassFile.FieldType.int) [((0 : Nat), (8 : Nat), (11 : Nat), (21 : Nat))]) ∈ lw_all := lw_g (lw_at lw_m10 76 rfl) rfl
theorem q2373 : (Jvm.Cond.methodLink "AcousticCameraLaw" (92 : Nat) ({ cls := "AcousticCamera", name := "contrast", desc := "()F" } : Jvm.MethodName)) ∈ lw_all := lw_g (lw_at lw_m10 77 rfl) rfl
theorem q2379 : (Jvm.Cond.methodLink "AcousticCameraLaw" (312 : Nat) ({ cls := "AcousticCameraLaw", name := "alias", desc := "(LAcousticCamera;III[J)I" } : Jvm.MethodName)) ∈ lw_all := lw_g (lw_at lw_m10 83 rfl) rfl
theorem q2380 : (Jvm.Cond.static ({ cls := "AcousticCameraLaw", name := "alias", desc := "(LAcousticCamera;III[J)I" } : Jvm.MethodName)) ∈ lw_all := lw_g (lw_at lw_m10 84 rfl) rfl
theorem q2381 : (Jvm.Cond.codeWith ({ cls := "AcousticCameraLaw", name := "alias", desc := "(LAcousticCamera;III[J)I" } : Jvm.MethodName) method_27_code (6 : Nat) (Option.some Jvm.ClassFile.FieldType.int) [((0 : Nat), (12 : Nat), (15 : Nat), (21 : Nat)), ((0 : Nat), (12 : Nat), (19 : Nat), (13 : Nat)), ((0 : Nat), (12 : Nat), (23 : Nat), (15 : Nat))]) ∈ lw_all := lw_g (lw_at lw_m10 85 rfl) rfl
theorem q2382 : (Jvm.Cond.methodLink "AcousticCameraLaw" (96 : Nat) ({ cls := "AcousticCamera", name := "alias", desc := "(III)I" } : Jvm.MethodName)) ∈ lw_all := lw_g (lw_at lw_m10 86 rfl) rfl
theorem q2402 : (Jvm.Cond.methodLink "AcousticCameraLaw" (315 : Nat) ({ cls := "AcousticCameraLaw", name := "isAlias", desc := "(LAcousticCamera;III[J)I" } : Jvm.MethodName)) ∈ lw_all := lw_g (lw_at lw_m10 106 rfl) rfl
theorem q2403 : (Jvm.Cond.static ({ cls := "AcousticCameraLaw", name := "isAlias", desc := "(LAcousticCamera;III[J)I" } : Jvm.MethodName)) ∈ lw_all := lw_g (lw_at lw_m10 107 rfl) rfl
theorem q2404 : (Jvm.Cond.codeWith ({ cls := "AcousticCameraLaw", name := "isAlias", desc := "(LAcousticCamera;III[J)I" } : Jvm.MethodName) method_28_code (6 : Nat) (Option.some Jvm.ClassFile.FieldType.int) [((0 : Nat), (19 : Nat), (22 : Nat), (21 : Nat)), ((0 : Nat), (19 : Nat), (26 : Nat), (13 : Nat)), ((0 : Nat), (19 : Nat), (30 : Nat), (15 : Nat))]) ∈ lw_all := lw_g (lw_at lw_m10 108 rfl) rfl
theorem q2405 : (Jvm.Cond.methodLink "AcousticCameraLaw" (99 : Nat) ({ cls := "AcousticCamera", name := "isAlias", desc := "(III)Z" } : Jvm.MethodName)) ∈ lw_all := lw_g (lw_at lw_m10 109 rfl) rfl
theorem q2433 : (Jvm.Cond.methodLink "AcousticCameraLaw" (318 : Nat) ({ cls := "AcousticCameraLaw", name := "aliases", desc := "(LAcousticCamera;II[J)I" } : Jvm.MethodName)) ∈ lw_all := lw_g (lw_at lw_m10 137 rfl) rfl
theorem q2434 : (Jvm.Cond.static ({ cls := "AcousticCameraLaw", name := "aliases", desc := "(LAcousticCamera;II[J)I" } : Jvm.MethodName)) ∈ lw_all := lw_g (lw_at lw_m10 138 rfl) rfl
theorem q2435 : (Jvm.Cond.codeWith ({ cls := "AcousticCameraLaw", name := "aliases", desc := "(LAcousticCamera;II[J)I" } : Jvm.MethodName) method_29_code (5 : Nat) (Option.some Jvm.ClassFile.FieldType.int) [((0 : Nat), (10 : Nat), (13 : Nat), (21 : Nat)), ((0 : Nat), (10 : Nat), (17 : Nat), (15 : Nat))]) ∈ lw_all := lw_g (lw_at lw_m10 139 rfl) rfl
theorem q2436 : (Jvm.Cond.methodLink "AcousticCameraLaw" (103 : Nat) ({ cls := "AcousticCamera", name := "aliases", desc := "(II)I" } : Jvm.MethodName)) ∈ lw_all := lw_g (lw_at lw_m10 140 rfl) rfl
theorem q2442 : (Jvm.Cond.methodLink "AcousticCameraLaw" (321 : Nat) ({ cls := "AcousticCameraLaw", name := "blockPower", desc := "(LAcousticCamera;III[J)I" } : Jvm.MethodName)) ∈ lw_all := lw_g (lw_at lw_m10 146 rfl) rfl
theorem q2443 : (Jvm.Cond.static ({ cls := "AcousticCameraLaw", name := "blockPower", desc := "(LAcousticCamera;III[J)I" } : Jvm.MethodName)) ∈ lw_all := lw_g (lw_at lw_m10 147 rfl) rfl
theorem q2444 : (Jvm.Cond.codeWith ({ cls := "AcousticCameraLaw", name := "blockPower", desc := "(LAcousticCamera;III[J)I" } : Jvm.MethodName) method_30_code (6 : Nat) (Option.some Jvm.ClassFile.FieldType.int) [((0 : Nat), (11 : Nat), (14 : Nat), (21 : Nat)), ((0 : Nat), (11 : Nat), (18 : Nat), (13 : Nat)), ((0 : Nat), (11 : Nat), (22 : Nat), (15 : Nat))]) ∈ lw_all := lw_g (lw_at lw_m10 148 rfl) rfl
theorem q2445 : (Jvm.Cond.methodLink "AcousticCameraLaw" (106 : Nat) ({ cls := "AcousticCamera", name := "blockPower", desc := "(III)J" } : Jvm.MethodName)) ∈ lw_all := lw_g (lw_at lw_m10 149 rfl) rfl
theorem q2457 : (Jvm.Cond.methodLink "AcousticCameraLaw" (324 : Nat) ({ cls := "AcousticCameraLaw", name := "blockBest", desc := "(LAcousticCamera;II[J)I" } : Jvm.MethodName)) ∈ lw_all := lw_g (lw_at lw_m10 161 rfl) rfl
theorem q2458 : (Jvm.Cond.static ({ cls := "AcousticCameraLaw", name := "blockBest", desc := "(LAcousticCamera;II[J)I" } : Jvm.MethodName)) ∈ lw_all := lw_g (lw_at lw_m10 162 rfl) rfl
theorem q2459 : (Jvm.Cond.codeWith ({ cls := "AcousticCameraLaw", name := "blockBest", desc := "(LAcousticCamera;II[J)I" } : Jvm.MethodName) method_31_code (5 : Nat) (Option.some Jvm.ClassFile.FieldType.int) [((0 : Nat), (10 : Nat), (13 : Nat), (21 : Nat)), ((0 : Nat), (10 : Nat), (17 : Nat), (15 : Nat))]) ∈ lw_all := lw_g (lw_at lw_m10 163 rfl) rfl
theorem q2460 : (Jvm.Cond.methodLink "AcousticCameraLaw" (110 : Nat) ({ cls := "AcousticCamera", name := "blockBest", desc := "(II)I" } : Jvm.MethodName)) ∈ lw_all := lw_g (lw_at lw_m10 164 rfl) rfl
theorem q2472 : (Jvm.Cond.methodLink "AcousticCameraLaw" (327 : Nat) ({ cls := "AcousticCameraLaw", name := "path", desc := "(LAcousticCamera;I[J)I" } : Jvm.MethodName)) ∈ lw_all := lw_g (lw_at lw_m10 176 rfl) rfl
theorem q2473 : (Jvm.Cond.static ({ cls := "AcousticCameraLaw", name := "path", desc := "(LAcousticCamera;I[J)I" } : Jvm.MethodName)) ∈ lw_all := lw_g (lw_at lw_m10 177 rfl) rfl
theorem q2474 : (Jvm.Cond.codeWith ({ cls := "AcousticCameraLaw", name := "path", desc := "(LAcousticCamera;I[J)I" } : Jvm.MethodName) method_32_code (4 : Nat) (Option.some Jvm.ClassFile.FieldType.int) [((0 : Nat), (9 : Nat), (12 : Nat), (21 : Nat)), ((0 : Nat), (9 : Nat), (15 : Nat), (15 : Nat))]) ∈ lw_all := lw_g (lw_at lw_m10 178 rfl) rfl
theorem q2475 : (Jvm.Cond.methodLink "AcousticCameraLaw" (113 : Nat) ({ cls := "AcousticCamera", name := "path", desc := "(I)I" } : Jvm.MethodName)) ∈ lw_all := lw_g (lw_at lw_m10 179 rfl) rfl
theorem q2480 : (Jvm.Cond.methodLink "AcousticCameraLaw" (330 : Nat) ({ cls := "AcousticCameraLaw", name := "trackScore", desc := "(LAcousticCamera;I[J)I" } : Jvm.MethodName)) ∈ lw_all := lw_g (lw_at lw_m10 184 rfl) rfl
theorem q2481 : (Jvm.Cond.static ({ cls := "AcousticCameraLaw", name := "trackScore", desc := "(LAcousticCamera;I[J)I" } : Jvm.MethodName)) ∈ lw_all := lw_g (lw_at lw_m10 185 rfl) rfl
theorem q2482 : (Jvm.Cond.codeWith ({ cls := "AcousticCameraLaw", name := "trackScore", desc := "(LAcousticCamera;I[J)I" } : Jvm.MethodName) method_33_code (4 : Nat) (Option.some Jvm.ClassFile.FieldType.int) [((0 : Nat), (8 : Nat), (11 : Nat), (21 : Nat)), ((0 : Nat), (8 : Nat), (14 : Nat), (15 : Nat))]) ∈ lw_all := lw_g (lw_at lw_m10 186 rfl) rfl
theorem q2483 : (Jvm.Cond.methodLink "AcousticCameraLaw" (116 : Nat) ({ cls := "AcousticCamera", name := "trackScore", desc := "(I)J" } : Jvm.MethodName)) ∈ lw_all := lw_g (lw_at lw_m10 187 rfl) rfl
theorem q2508 : (Jvm.Cond.methodLink "AcousticCameraLaw" (333 : Nat) ({ cls := "AcousticCameraLaw", name := "trackCell", desc := "(LAcousticCamera;II[J)I" } : Jvm.MethodName)) ∈ lw_all := lw_g (lw_at lw_m10 212 rfl) rfl
theorem q2509 : (Jvm.Cond.static ({ cls := "AcousticCameraLaw", name := "trackCell", desc := "(LAcousticCamera;II[J)I" } : Jvm.MethodName)) ∈ lw_all := lw_g (lw_at lw_m10 213 rfl) rfl
theorem q2510 : (Jvm.Cond.codeWith ({ cls := "AcousticCameraLaw", name := "trackCell", desc := "(LAcousticCamera;II[J)I" } : Jvm.MethodName) method_34_code (5 : Nat) (Option.some Jvm.ClassFile.FieldType.int) [((0 : Nat), (10 : Nat), (13 : Nat), (21 : Nat)), ((0 : Nat), (10 : Nat), (17 : Nat), (13 : Nat)), ((0 : Nat), (10 : Nat), (21 : Nat), (15 : Nat))]) ∈ lw_all := lw_g (lw_at lw_m10 214 rfl) rfl
theorem q2511 : (Jvm.Cond.methodLink "AcousticCameraLaw" (119 : Nat) ({ cls := "AcousticCamera", name := "trackCell", desc := "(II)I" } : Jvm.MethodName)) ∈ lw_all := lw_g (lw_at lw_m10 215 rfl) rfl
theorem q2518 : (Jvm.Cond.methodLink "AcousticCameraLaw" (336 : Nat) ({ cls := "AcousticCameraLaw", name := "movingPower", desc := "(LAcousticCamera;III[J)I" } : Jvm.MethodName)) ∈ lw_all := lw_g (lw_at lw_m10 222 rfl) rfl
theorem q2519 : (Jvm.Cond.static ({ cls := "AcousticCameraLaw", name := "movingPower", desc := "(LAcousticCamera;III[J)I" } : Jvm.MethodName)) ∈ lw_all := lw_g (lw_at lw_m10 223 rfl) rfl
theorem q2520 : (Jvm.Cond.codeWith ({ cls := "AcousticCameraLaw", name := "movingPower", desc := "(LAcousticCamera;III[J)I" } : Jvm.MethodName) method_35_code (6 : Nat) (Option.some Jvm.ClassFile.FieldType.int) [((0 : Nat), (11 : Nat), (14 : Nat), (21 : Nat)), ((0 : Nat), (11 : Nat), (18 : Nat), (13 : Nat)), ((0 : Nat), (11 : Nat), (22 : Nat), (15 : Nat))]) ∈ lw_all := lw_g (lw_at lw_m10 224 rfl) rfl
theorem q2521 : (Jvm.Cond.methodLink "AcousticCameraLaw" (122 : Nat) ({ cls := "AcousticCamera", name := "movingPower", desc := "(III)J" } : Jvm.MethodName)) ∈ lw_all := lw_g (lw_at lw_m10 225 rfl) rfl
theorem q2533 : (Jvm.Cond.methodLink "AcousticCameraLaw" (339 : Nat) ({ cls := "AcousticCameraLaw", name := "bestVelocity", desc := "(LAcousticCamera;III[J)I" } : Jvm.MethodName)) ∈ lw_all := lw_g (lw_at lw_m10 237 rfl) rfl
theorem q2534 : (Jvm.Cond.static ({ cls := "AcousticCameraLaw", name := "bestVelocity", desc := "(LAcousticCamera;III[J)I" } : Jvm.MethodName)) ∈ lw_all := lw_g (lw_at lw_m10 238 rfl) rfl
theorem q2535 : (Jvm.Cond.codeWith ({ cls := "AcousticCameraLaw", name := "bestVelocity", desc := "(LAcousticCamera;III[J)I" } : Jvm.MethodName) method_36_code (6 : Nat) (Option.some Jvm.ClassFile.FieldType.int) [((0 : Nat), (12 : Nat), (15 : Nat), (21 : Nat)), ((0 : Nat), (12 : Nat), (19 : Nat), (13 : Nat)), ((0 : Nat), (12 : Nat), (23 : Nat), (15 : Nat))]) ∈ lw_all := lw_g (lw_at lw_m10 239 rfl) rfl
theorem q2536 : (Jvm.Cond.methodLink "AcousticCameraLaw" (125 : Nat) ({ cls := "AcousticCamera", name := "bestVelocity", desc := "(III)I" } : Jvm.MethodName)) ∈ lw_all := lw_g (lw_at lw_m11 0 rfl) rfl
theorem q2542 : (Jvm.Cond.methodLink "AcousticCameraLaw" (342 : Nat) ({ cls := "AcousticCameraLaw", name := "correlation", desc := "(LAcousticCamera;III[J)I" } : Jvm.MethodName)) ∈ lw_all := lw_g (lw_at lw_m11 6 rfl) rfl
theorem q2543 : (Jvm.Cond.static ({ cls := "AcousticCameraLaw", name := "correlation", desc := "(LAcousticCamera;III[J)I" } : Jvm.MethodName)) ∈ lw_all := lw_g (lw_at lw_m11 7 rfl) rfl
theorem q2544 : (Jvm.Cond.codeWith ({ cls := "AcousticCameraLaw", name := "correlation", desc := "(LAcousticCamera;III[J)I" } : Jvm.MethodName) method_37_code (6 : Nat) (Option.some Jvm.ClassFile.FieldType.int) [((0 : Nat), (11 : Nat), (14 : Nat), (21 : Nat)), ((0 : Nat), (11 : Nat), (18 : Nat), (13 : Nat)), ((0 : Nat), (11 : Nat), (22 : Nat), (15 : Nat))]) ∈ lw_all := lw_g (lw_at lw_m11 8 rfl) rfl
theorem q2545 : (Jvm.Cond.methodLink "AcousticCameraLaw" (128 : Nat) ({ cls := "AcousticCamera", name := "correlation", desc := "(III)J" } : Jvm.MethodName)) ∈ lw_all := lw_g (lw_at lw_m11 9 rfl) rfl
theorem q2557 : (Jvm.Cond.methodLink "AcousticCameraLaw" (345 : Nat) ({ cls := "AcousticCameraLaw", name := "bestLag", desc := "(LAcousticCamera;III[J)I" } : Jvm.MethodName)) ∈ lw_all := lw_g (lw_at lw_m11 21 rfl) rfl
theorem q2558 : (Jvm.Cond.static ({ cls := "AcousticCameraLaw", name := "bestLag", desc := "(LAcousticCamera;III[J)I" } : Jvm.MethodName)) ∈ lw_all := lw_g (lw_at lw_m11 22 rfl) rfl
theorem q2559 : (Jvm.Cond.codeWith ({ cls := "AcousticCameraLaw", name := "bestLag", desc := "(LAcousticCamera;III[J)I" } : Jvm.MethodName) method_38_code (6 : Nat) (Option.some Jvm.ClassFile.FieldType.int) [((0 : Nat), (12 : Nat), (15 : Nat), (21 : Nat)), ((0 : Nat), (12 : Nat), (19 : Nat), (13 : Nat)), ((0 : Nat), (12 : Nat), (23 : Nat), (15 : Nat))]) ∈ lw_all := lw_g (lw_at lw_m11 23 rfl) rfl
theorem q2560 : (Jvm.Cond.methodLink "AcousticCameraLaw" (131 : Nat) ({ cls := "AcousticCamera", name := "bestLag", desc := "(III)I" } : Jvm.MethodName)) ∈ lw_all := lw_g (lw_at lw_m11 24 rfl) rfl
theorem q2566 : (Jvm.Cond.methodLink "AcousticCameraLaw" (348 : Nat) ({ cls := "AcousticCameraLaw", name := "level", desc := "(LAcousticCamera;I[J)I" } : Jvm.MethodName)) ∈ lw_all := lw_g (lw_at lw_m11 30 rfl) rfl
theorem q2567 : (Jvm.Cond.static ({ cls := "AcousticCameraLaw", name := "level", desc := "(LAcousticCamera;I[J)I" } : Jvm.MethodName)) ∈ lw_all := lw_g (lw_at lw_m11 31 rfl) rfl
theorem q2568 : (Jvm.Cond.codeWith ({ cls := "AcousticCameraLaw", name := "level", desc := "(LAcousticCamera;I[J)I" } : Jvm.MethodName) method_39_code (4 : Nat) (Option.some Jvm.ClassFile.FieldType.int) [((0 : Nat), (8 : Nat), (11 : Nat), (21 : Nat)), ((0 : Nat), (8 : Nat), (14 : Nat), (13 : Nat))]) ∈ lw_all := lw_g (lw_at lw_m11 32 rfl) rfl
theorem q2569 : (Jvm.Cond.methodLink "AcousticCameraLaw" (134 : Nat) ({ cls := "AcousticCamera", name := "level", desc := "(I)J" } : Jvm.MethodName)) ∈ lw_all := lw_g (lw_at lw_m11 33 rfl) rfl
theorem q2577 : (Jvm.Cond.methodLink "AcousticCameraLaw" (351 : Nat) ({ cls := "AcousticCameraLaw", name := "loudest", desc := "(LAcousticCamera;I[J)I" } : Jvm.MethodName)) ∈ lw_all := lw_g (lw_at lw_m11 41 rfl) rfl
theorem q2578 : (Jvm.Cond.static ({ cls := "AcousticCameraLaw", name := "loudest", desc := "(LAcousticCamera;I[J)I" } : Jvm.MethodName)) ∈ lw_all := lw_g (lw_at lw_m11 42 rfl) rfl
theorem q2579 : (Jvm.Cond.codeWith ({ cls := "AcousticCameraLaw", name := "loudest", desc := "(LAcousticCamera;I[J)I" } : Jvm.MethodName) method_40_code (4 : Nat) (Option.some Jvm.ClassFile.FieldType.int) [((0 : Nat), (9 : Nat), (12 : Nat), (21 : Nat)), ((0 : Nat), (9 : Nat), (15 : Nat), (13 : Nat))]) ∈ lw_all := lw_g (lw_at lw_m11 43 rfl) rfl
theorem q2580 : (Jvm.Cond.methodLink "AcousticCameraLaw" (137 : Nat) ({ cls := "AcousticCamera", name := "loudest", desc := "(I)I" } : Jvm.MethodName)) ∈ lw_all := lw_g (lw_at lw_m11 44 rfl) rfl
theorem q2589 : (Jvm.Cond.methodLink "AcousticCameraLaw" (354 : Nat) ({ cls := "AcousticCameraLaw", name := "writeMap", desc := "(LAcousticCamera;[J)I" } : Jvm.MethodName)) ∈ lw_all := lw_g (lw_at lw_m11 53 rfl) rfl
theorem q2590 : (Jvm.Cond.static ({ cls := "AcousticCameraLaw", name := "writeMap", desc := "(LAcousticCamera;[J)I" } : Jvm.MethodName)) ∈ lw_all := lw_g (lw_at lw_m11 54 rfl) rfl
theorem q2591 : (Jvm.Cond.codeWith ({ cls := "AcousticCameraLaw", name := "writeMap", desc := "(LAcousticCamera;[J)I" } : Jvm.MethodName) method_41_code (3 : Nat) (Option.some Jvm.ClassFile.FieldType.int) [((0 : Nat), (8 : Nat), (11 : Nat), (21 : Nat))]) ∈ lw_all := lw_g (lw_at lw_m11 55 rfl) rfl
theorem q2592 : (Jvm.Cond.methodLink "AcousticCameraLaw" (140 : Nat) ({ cls := "AcousticCamera", name := "writeMap", desc := "()I" } : Jvm.MethodName)) ∈ lw_all := lw_g (lw_at lw_m11 56 rfl) rfl
theorem q2678 : (Jvm.Cond.methodLink "AcousticCameraLaw" (357 : Nat) ({ cls := "AcousticCameraLaw", name := "mapByte", desc := "(LAcousticCamera;I[J)I" } : Jvm.MethodName)) ∈ lw_all := lw_g (lw_at lw_m11 142 rfl) rfl
theorem q2679 : (Jvm.Cond.static ({ cls := "AcousticCameraLaw", name := "mapByte", desc := "(LAcousticCamera;I[J)I" } : Jvm.MethodName)) ∈ lw_all := lw_g (lw_at lw_m11 143 rfl) rfl
theorem q2680 : (Jvm.Cond.codeWith ({ cls := "AcousticCameraLaw", name := "mapByte", desc := "(LAcousticCamera;I[J)I" } : Jvm.MethodName) method_42_code (4 : Nat) (Option.some Jvm.ClassFile.FieldType.int) [((0 : Nat), (9 : Nat), (12 : Nat), (13 : Nat))]) ∈ lw_all := lw_g (lw_at lw_m11 144 rfl) rfl
theorem q2681 : (Jvm.Cond.methodLink "AcousticCameraLaw" (143 : Nat) ({ cls := "AcousticCamera", name := "mapByte", desc := "(I)I" } : Jvm.MethodName)) ∈ lw_all := lw_g (lw_at lw_m11 145 rfl) rfl
theorem q2695 : (Jvm.Cond.methodLink "AcousticCameraLaw" (360 : Nat) ({ cls := "AcousticCameraLaw", name := "pointBest", desc := "(LAcousticCamera;II[J)I" } : Jvm.MethodName)) ∈ lw_all := lw_g (lw_at lw_m11 159 rfl) rfl
theorem q2696 : (Jvm.Cond.static ({ cls := "AcousticCameraLaw", name := "pointBest", desc := "(LAcousticCamera;II[J)I" } : Jvm.MethodName)) ∈ lw_all := lw_g (lw_at lw_m11 160 rfl) rfl
theorem q2697 : (Jvm.Cond.codeWith ({ cls := "AcousticCameraLaw", name := "pointBest", desc := "(LAcousticCamera;II[J)I" } : Jvm.MethodName) method_43_code (5 : Nat) (Option.some Jvm.ClassFile.FieldType.int) [((0 : Nat), (10 : Nat), (13 : Nat), (21 : Nat)), ((0 : Nat), (10 : Nat), (17 : Nat), (13 : Nat)), ((0 : Nat), (10 : Nat), (21 : Nat), (15 : Nat))]) ∈ lw_all := lw_g (lw_at lw_m11 161 rfl) rfl
theorem q2698 : (Jvm.Cond.methodLink "AcousticCameraLaw" (146 : Nat) ({ cls := "AcousticCamera", name := "pointBest", desc := "(II)I" } : Jvm.MethodName)) ∈ lw_all := lw_g (lw_at lw_m11 162 rfl) rfl
theorem q2733 : (Jvm.Cond.methodLink "AcousticCameraLaw" (363 : Nat) ({ cls := "AcousticCameraLaw", name := "pointPower", desc := "(LAcousticCamera;III[J)I" } : Jvm.MethodName)) ∈ lw_all := lw_g (lw_at lw_m11 197 rfl) rfl
theorem q2734 : (Jvm.Cond.static ({ cls := "AcousticCameraLaw", name := "pointPower", desc := "(LAcousticCamera;III[J)I" } : Jvm.MethodName)) ∈ lw_all := lw_g (lw_at lw_m11 198 rfl) rfl
theorem q2735 : (Jvm.Cond.codeWith ({ cls := "AcousticCameraLaw", name := "pointPower", desc := "(LAcousticCamera;III[J)I" } : Jvm.MethodName) method_44_code (6 : Nat) (Option.some Jvm.ClassFile.FieldType.int) [((0 : Nat), (11 : Nat), (14 : Nat), (21 : Nat)), ((0 : Nat), (11 : Nat), (18 : Nat), (13 : Nat)), ((0 : Nat), (11 : Nat), (22 : Nat), (15 : Nat))]) ∈ lw_all := lw_g (lw_at lw_m11 199 rfl) rfl
theorem q2736 : (Jvm.Cond.methodLink "AcousticCameraLaw" (149 : Nat) ({ cls := "AcousticCamera", name := "pointPower", desc := "(III)J" } : Jvm.MethodName)) ∈ lw_all := lw_g (lw_at lw_m11 200 rfl) rfl
theorem q2740 : (Jvm.Cond.methodLink "AcousticCameraLaw" (366 : Nat) ({ cls := "AcousticCameraLaw", name := "bestWithout", desc := "(LAcousticCamera;I[J)I" } : Jvm.MethodName)) ∈ lw_all := lw_g (lw_at lw_m11 204 rfl) rfl
theorem q2741 : (Jvm.Cond.static ({ cls := "AcousticCameraLaw", name := "bestWithout", desc := "(LAcousticCamera;I[J)I" } : Jvm.MethodName)) ∈ lw_all := lw_g (lw_at lw_m11 205 rfl) rfl
theorem q2742 : (Jvm.Cond.codeWith ({ cls := "AcousticCameraLaw", name := "bestWithout", desc := "(LAcousticCamera;I[J)I" } : Jvm.MethodName) method_45_code (4 : Nat) (Option.some Jvm.ClassFile.FieldType.int) [((0 : Nat), (9 : Nat), (12 : Nat), (21 : Nat)), ((0 : Nat), (9 : Nat), (15 : Nat), (13 : Nat))]) ∈ lw_all := lw_g (lw_at lw_m11 206 rfl) rfl
theorem q2743 : (Jvm.Cond.methodLink "AcousticCameraLaw" (152 : Nat) ({ cls := "AcousticCamera", name := "bestWithout", desc := "(I)I" } : Jvm.MethodName)) ∈ lw_all := lw_g (lw_at lw_m11 207 rfl) rfl
theorem q2748 : (Jvm.Cond.methodLink "AcousticCameraLaw" (369 : Nat) ({ cls := "AcousticCameraLaw", name := "bestIfOff", desc := "(LAcousticCamera;I[J)I" } : Jvm.MethodName)) ∈ lw_all := lw_g (lw_at lw_m11 212 rfl) rfl
theorem q2749 : (Jvm.Cond.static ({ cls := "AcousticCameraLaw", name := "bestIfOff", desc := "(LAcousticCamera;I[J)I" } : Jvm.MethodName)) ∈ lw_all := lw_g (lw_at lw_m11 213 rfl) rfl
theorem q2750 : (Jvm.Cond.codeWith ({ cls := "AcousticCameraLaw", name := "bestIfOff", desc := "(LAcousticCamera;I[J)I" } : Jvm.MethodName) method_46_code (4 : Nat) (Option.some Jvm.ClassFile.FieldType.int) [((0 : Nat), (9 : Nat), (12 : Nat), (21 : Nat)), ((0 : Nat), (9 : Nat), (15 : Nat), (13 : Nat))]) ∈ lw_all := lw_g (lw_at lw_m11 214 rfl) rfl
theorem q2751 : (Jvm.Cond.methodLink "AcousticCameraLaw" (155 : Nat) ({ cls := "AcousticCamera", name := "bestIfOff", desc := "(I)I" } : Jvm.MethodName)) ∈ lw_all := lw_g (lw_at lw_m11 215 rfl) rfl
theorem q2759 : (Jvm.Cond.methodLink "AcousticCameraLaw" (372 : Nat) ({ cls := "AcousticCameraLaw", name := "mute", desc := "(LAcousticCamera;IZ[J)I" } : Jvm.MethodName)) ∈ lw_all := lw_g (lw_at lw_m11 223 rfl) rfl
theorem q2760 : (Jvm.Cond.static ({ cls := "AcousticCameraLaw", name := "mute", desc := "(LAcousticCamera;IZ[J)I" } : Jvm.MethodName)) ∈ lw_all := lw_g (lw_at lw_m11 224 rfl) rfl
theorem q2761 : (Jvm.Cond.codeWith ({ cls := "AcousticCameraLaw", name := "mute", desc := "(LAcousticCamera;IZ[J)I" } : Jvm.MethodName) method_47_code (5 : Nat) (Option.some Jvm.ClassFile.FieldType.int) [((0 : Nat), (17 : Nat), (20 : Nat), (21 : Nat)), ((0 : Nat), (17 : Nat), (24 : Nat), (13 : Nat))]) ∈ lw_all := lw_g (lw_at lw_m11 225 rfl) rfl
theorem q2762 : (Jvm.Cond.methodLink "AcousticCameraLaw" (158 : Nat) ({ cls := "AcousticCamera", name := "mute", desc := "(IZ)Z" } : Jvm.MethodName)) ∈ lw_all := lw_g (lw_at lw_m11 226 rfl) rfl
theorem q2812 : (Jvm.Cond.methodLink "AcousticCameraLaw" (376 : Nat) ({ cls := "AcousticCameraLaw", name := "setWeight", desc := "(LAcousticCamera;II[J)I" } : Jvm.MethodName)) ∈ lw_all := lw_g (lw_at lw_m12 36 rfl) rfl
theorem q2813 : (Jvm.Cond.static ({ cls := "AcousticCameraLaw", name := "setWeight", desc := "(LAcousticCamera;II[J)I" } : Jvm.MethodName)) ∈ lw_all := lw_g (lw_at lw_m12 37 rfl) rfl
theorem q2814 : (Jvm.Cond.codeWith ({ cls := "AcousticCameraLaw", name := "setWeight", desc := "(LAcousticCamera;II[J)I" } : Jvm.MethodName) method_48_code (5 : Nat) (Option.some Jvm.ClassFile.FieldType.int) [((0 : Nat), (10 : Nat), (13 : Nat), (21 : Nat)), ((0 : Nat), (10 : Nat), (17 : Nat), (13 : Nat)), ((0 : Nat), (10 : Nat), (21 : Nat), (15 : Nat))]) ∈ lw_all := lw_g (lw_at lw_m12 38 rfl) rfl
theorem q2815 : (Jvm.Cond.methodLink "AcousticCameraLaw" (162 : Nat) ({ cls := "AcousticCamera", name := "setWeight", desc := "(II)I" } : Jvm.MethodName)) ∈ lw_all := lw_g (lw_at lw_m12 39 rfl) rfl
theorem q2819 : (Jvm.Cond.methodLink "AcousticCameraLaw" (379 : Nat) ({ cls := "AcousticCameraLaw", name := "setOn", desc := "(LAcousticCamera;IZ[J)I" } : Jvm.MethodName)) ∈ lw_all := lw_g (lw_at lw_m12 43 rfl) rfl
theorem q2820 : (Jvm.Cond.static ({ cls := "AcousticCameraLaw", name := "setOn", desc := "(LAcousticCamera;IZ[J)I" } : Jvm.MethodName)) ∈ lw_all := lw_g (lw_at lw_m12 44 rfl) rfl
theorem q2821 : (Jvm.Cond.codeWith ({ cls := "AcousticCameraLaw", name := "setOn", desc := "(LAcousticCamera;IZ[J)I" } : Jvm.MethodName) method_49_code (5 : Nat) (Option.some Jvm.ClassFile.FieldType.int) [((0 : Nat), (17 : Nat), (20 : Nat), (21 : Nat)), ((0 : Nat), (17 : Nat), (24 : Nat), (13 : Nat))]) ∈ lw_all := lw_g (lw_at lw_m12 45 rfl) rfl
theorem q2822 : (Jvm.Cond.methodLink "AcousticCameraLaw" (165 : Nat) ({ cls := "AcousticCamera", name := "setOn", desc := "(IZ)Z" } : Jvm.MethodName)) ∈ lw_all := lw_g (lw_at lw_m12 46 rfl) rfl
theorem q2826 : (Jvm.Cond.methodLink "AcousticCameraLaw" (382 : Nat) ({ cls := "AcousticCameraLaw", name := "moveSource", desc := "(LAcousticCamera;III[J)I" } : Jvm.MethodName)) ∈ lw_all := lw_g (lw_at lw_m12 50 rfl) rfl
theorem q2827 : (Jvm.Cond.static ({ cls := "AcousticCameraLaw", name := "moveSource", desc := "(LAcousticCamera;III[J)I" } : Jvm.MethodName)) ∈ lw_all := lw_g (lw_at lw_m12 51 rfl) rfl
theorem q2828 : (Jvm.Cond.codeWith ({ cls := "AcousticCameraLaw", name := "moveSource", desc := "(LAcousticCamera;III[J)I" } : Jvm.MethodName) method_50_code (6 : Nat) (Option.some Jvm.ClassFile.FieldType.int) [((0 : Nat), (12 : Nat), (15 : Nat), (21 : Nat)), ((0 : Nat), (12 : Nat), (19 : Nat), (13 : Nat)), ((0 : Nat), (12 : Nat), (23 : Nat), (15 : Nat))]) ∈ lw_all := lw_g (lw_at lw_m12 52 rfl) rfl
theorem q2829 : (Jvm.Cond.methodLink "AcousticCameraLaw" (168 : Nat) ({ cls := "AcousticCamera", name := "moveSource", desc := "(III)I" } : Jvm.MethodName)) ∈ lw_all := lw_g (lw_at lw_m12 53 rfl) rfl
theorem q2839 : (Jvm.Cond.methodLink "AcousticCameraLaw" (385 : Nat) ({ cls := "AcousticCameraLaw", name := "setVelocity", desc := "(LAcousticCamera;III[J)I" } : Jvm.MethodName)) ∈ lw_all := lw_g (lw_at lw_m12 63 rfl) rfl
theorem q2840 : (Jvm.Cond.static ({ cls := "AcousticCameraLaw", name := "setVelocity", desc := "(LAcousticCamera;III[J)I" } : Jvm.MethodName)) ∈ lw_all := lw_g (lw_at lw_m12 64 rfl) rfl
theorem q2841 : (Jvm.Cond.codeWith ({ cls := "AcousticCameraLaw", name := "setVelocity", desc := "(LAcousticCamera;III[J)I" } : Jvm.MethodName) method_51_code (6 : Nat) (Option.some Jvm.ClassFile.FieldType.int) [((0 : Nat), (12 : Nat), (15 : Nat), (21 : Nat)), ((0 : Nat), (12 : Nat), (19 : Nat), (13 : Nat)), ((0 : Nat), (12 : Nat), (23 : Nat), (15 : Nat))]) ∈ lw_all := lw_g (lw_at lw_m12 65 rfl) rfl
theorem q2842 : (Jvm.Cond.methodLink "AcousticCameraLaw" (171 : Nat) ({ cls := "AcousticCamera", name := "setVelocity", desc := "(III)I" } : Jvm.MethodName)) ∈ lw_all := lw_g (lw_at lw_m12 66 rfl) rfl
theorem q2846 : (Jvm.Cond.methodLink "AcousticCameraLaw" (388 : Nat) ({ cls := "AcousticCameraLaw", name := "clean", desc := "(LAcousticCamera;I[J)I" } : Jvm.MethodName)) ∈ lw_all := lw_g (lw_at lw_m12 70 rfl) rfl
theorem q2847 : (Jvm.Cond.static ({ cls := "AcousticCameraLaw", name := "clean", desc := "(LAcousticCamera;I[J)I" } : Jvm.MethodName)) ∈ lw_all := lw_g (lw_at lw_m12 71 rfl) rfl
theorem q2848 : (Jvm.Cond.codeWith ({ cls := "AcousticCameraLaw", name := "clean", desc := "(LAcousticCamera;I[J)I" } : Jvm.MethodName) method_52_code (4 : Nat) (Option.some Jvm.ClassFile.FieldType.int) [((0 : Nat), (9 : Nat), (12 : Nat), (21 : Nat)), ((0 : Nat), (9 : Nat), (15 : Nat), (15 : Nat))]) ∈ lw_all := lw_g (lw_at lw_m12 72 rfl) rfl
theorem q2849 : (Jvm.Cond.methodLink "AcousticCameraLaw" (174 : Nat) ({ cls := "AcousticCamera", name := "clean", desc := "(I)I" } : Jvm.MethodName)) ∈ lw_all := lw_g (lw_at lw_m12 73 rfl) rfl
theorem q2862 : (Jvm.Cond.methodLink "AcousticCameraLaw" (391 : Nat) ({ cls := "AcousticCameraLaw", name := "cleaned", desc := "(LAcousticCamera;[J)I" } : Jvm.MethodName)) ∈ lw_all := lw_g (lw_at lw_m12 86 rfl) rfl
theorem q2863 : (Jvm.Cond.static ({ cls := "AcousticCameraLaw", name := "cleaned", desc := "(LAcousticCamera;[J)I" } : Jvm.MethodName)) ∈ lw_all := lw_g (lw_at lw_m12 87 rfl) rfl
theorem q2864 : (Jvm.Cond.codeWith ({ cls := "AcousticCameraLaw", name := "cleaned", desc := "(LAcousticCamera;[J)I" } : Jvm.MethodName) method_53_code (3 : Nat) (Option.some Jvm.ClassFile.FieldType.int) [((0 : Nat), (8 : Nat), (11 : Nat), (21 : Nat))]) ∈ lw_all := lw_g (lw_at lw_m12 88 rfl) rfl
theorem q2865 : (Jvm.Cond.methodLink "AcousticCameraLaw" (177 : Nat) ({ cls := "AcousticCamera", name := "cleaned", desc := "()I" } : Jvm.MethodName)) ∈ lw_all := lw_g (lw_at lw_m12 89 rfl) rfl
theorem q2869 : (Jvm.Cond.methodLink "AcousticCameraLaw" (394 : Nat) ({ cls := "AcousticCameraLaw", name := "undo", desc := "(LAcousticCamera;[J)I" } : Jvm.MethodName)) ∈ lw_all := lw_g (lw_at lw_m12 93 rfl) rfl
theorem q2870 : (Jvm.Cond.static ({ cls := "AcousticCameraLaw", name := "undo", desc := "(LAcousticCamera;[J)I" } : Jvm.MethodName)) ∈ lw_all := lw_g (lw_at lw_m12 94 rfl) rfl
theorem q2871 : (Jvm.Cond.codeWith ({ cls := "AcousticCameraLaw", name := "undo", desc := "(LAcousticCamera;[J)I" } : Jvm.MethodName) method_54_code (3 : Nat) (Option.some Jvm.ClassFile.FieldType.int) [((0 : Nat), (8 : Nat), (11 : Nat), (21 : Nat))]) ∈ lw_all := lw_g (lw_at lw_m12 95 rfl) rfl
theorem q2872 : (Jvm.Cond.methodLink "AcousticCameraLaw" (180 : Nat) ({ cls := "AcousticCamera", name := "undo", desc := "()I" } : Jvm.MethodName)) ∈ lw_all := lw_g (lw_at lw_m12 96 rfl) rfl
theorem q2891 : (Jvm.Cond.methodLink "AcousticCameraLaw" (401 : Nat) ({ cls := "AcousticCameraLaw", name := "save", desc := "(LAcousticCamera;I[J)I" } : Jvm.MethodName)) ∈ lw_all := lw_g (lw_at lw_m12 115 rfl) rfl
theorem q2892 : (Jvm.Cond.static ({ cls := "AcousticCameraLaw", name := "save", desc := "(LAcousticCamera;I[J)I" } : Jvm.MethodName)) ∈ lw_all := lw_g (lw_at lw_m12 116 rfl) rfl
theorem q2893 : (Jvm.Cond.codeWith ({ cls := "AcousticCameraLaw", name := "save", desc := "(LAcousticCamera;I[J)I" } : Jvm.MethodName) method_55_code (4 : Nat) (Option.some Jvm.ClassFile.FieldType.int) [((0 : Nat), (9 : Nat), (12 : Nat), (21 : Nat)), ((0 : Nat), (9 : Nat), (15 : Nat), (13 : Nat))]) ∈ lw_all := lw_g (lw_at lw_m12 117 rfl) rfl
theorem q2894 : (Jvm.Cond.methodLink "AcousticCameraLaw" (183 : Nat) ({ cls := "AcousticCamera", name := "save", desc := "(I)I" } : Jvm.MethodName)) ∈ lw_all := lw_g (lw_at lw_m12 118 rfl) rfl
theorem q2898 : (Jvm.Cond.methodLink "AcousticCameraLaw" (404 : Nat) ({ cls := "AcousticCameraLaw", name := "restore", desc := "(LAcousticCamera;I[J)I" } : Jvm.MethodName)) ∈ lw_all := lw_g (lw_at lw_m12 122 rfl) rfl
theorem q2899 : (Jvm.Cond.static ({ cls := "AcousticCameraLaw", name := "restore", desc := "(LAcousticCamera;I[J)I" } : Jvm.MethodName)) ∈ lw_all := lw_g (lw_at lw_m12 123 rfl) rfl
theorem q2900 : (Jvm.Cond.codeWith ({ cls := "AcousticCameraLaw", name := "restore", desc := "(LAcousticCamera;I[J)I" } : Jvm.MethodName) method_56_code (4 : Nat) (Option.some Jvm.ClassFile.FieldType.int) [((0 : Nat), (9 : Nat), (12 : Nat), (13 : Nat)), ((0 : Nat), (9 : Nat), (15 : Nat), (21 : Nat))]) ∈ lw_all := lw_g (lw_at lw_m12 124 rfl) rfl
theorem q2901 : (Jvm.Cond.methodLink "AcousticCameraLaw" (186 : Nat) ({ cls := "AcousticCamera", name := "restore", desc := "(I)I" } : Jvm.MethodName)) ∈ lw_all := lw_g (lw_at lw_m12 125 rfl) rfl
theorem q2905 : (Jvm.Cond.classLink "AcousticCameraLaw" (190 : Nat) "AcousticCameraModel") ∈ lw_all := lw_g (lw_at lw_m12 129 rfl) rfl
theorem q2907 : (Jvm.Cond.methodLink "AcousticCameraLaw" (192 : Nat) ({ cls := "AcousticCameraModel", name := "<init>", desc := "()V" } : Jvm.MethodName)) ∈ lw_all := lw_g (lw_at lw_m12 131 rfl) rfl
theorem q3003 : (Jvm.Cond.methodLink "AcousticCameraLaw" (204 : Nat) ({ cls := "AcousticCameraModel", name := "thrown", desc := "()I" } : Jvm.MethodName)) ∈ lw_all := lw_g (lw_at lw_m12 227 rfl) rfl
theorem q3007 : (Jvm.Cond.methodLink "AcousticCameraLaw" (197 : Nat) ({ cls := "AcousticCameraModel", name := "append", desc := "(IIIII)I" } : Jvm.MethodName)) ∈ lw_all := lw_g (lw_at lw_m12 231 rfl) rfl
theorem q3015 : (Jvm.Cond.methodLink "AcousticCameraLaw" (218 : Nat) ({ cls := "AcousticCameraModel", name := "buffered", desc := "()I" } : Jvm.MethodName)) ∈ lw_all := lw_g (lw_at lw_m12 239 rfl) rfl
theorem q3019 : (Jvm.Cond.methodLink "AcousticCameraLaw" (210 : Nat) ({ cls := "AcousticCameraModel", name := "parseError", desc := "()I" } : Jvm.MethodName)) ∈ lw_all := lw_g (lw_at lw_m13 3 rfl) rfl
theorem q3023 : (Jvm.Cond.methodLink "AcousticCameraLaw" (214 : Nat) ({ cls := "AcousticCameraModel", name := "errorPosition", desc := "()I" } : Jvm.MethodName)) ∈ lw_all := lw_g (lw_at lw_m13 7 rfl) rfl
theorem q3027 : (Jvm.Cond.methodLink "AcousticCameraLaw" (203 : Nat) ({ cls := "AcousticCameraModel", name := "load", desc := "(I)I" } : Jvm.MethodName)) ∈ lw_all := lw_g (lw_at lw_m13 11 rfl) rfl
theorem q3228 : (Jvm.Cond.methodLink "AcousticCameraLaw" (222 : Nat) ({ cls := "AcousticCameraModel", name := "mics", desc := "()I" } : Jvm.MethodName)) ∈ lw_all := lw_g (lw_at lw_m13 212 rfl) rfl
theorem q3236 : (Jvm.Cond.methodLink "AcousticCameraLaw" (226 : Nat) ({ cls := "AcousticCameraModel", name := "micAt", desc := "(II)I" } : Jvm.MethodName)) ∈ lw_all := lw_g (lw_at lw_m13 220 rfl) rfl
theorem q3248 : (Jvm.Cond.methodLink "AcousticCameraLaw" (229 : Nat) ({ cls := "AcousticCameraModel", name := "isMuted", desc := "(I)Z" } : Jvm.MethodName)) ∈ lw_all := lw_g (lw_at lw_m13 232 rfl) rfl
theorem q3256 : (Jvm.Cond.methodLink "AcousticCameraLaw" (233 : Nat) ({ cls := "AcousticCameraModel", name := "columns", desc := "()I" } : Jvm.MethodName)) ∈ lw_all := lw_g (lw_at lw_m14 0 rfl) rfl
theorem q3260 : (Jvm.Cond.methodLink "AcousticCameraLaw" (237 : Nat) ({ cls := "AcousticCameraModel", name := "rows", desc := "()I" } : Jvm.MethodName)) ∈ lw_all := lw_g (lw_at lw_m14 4 rfl) rfl
theorem q3264 : (Jvm.Cond.methodLink "AcousticCameraLaw" (240 : Nat) ({ cls := "AcousticCameraModel", name := "cellAt", desc := "(II)I" } : Jvm.MethodName)) ∈ lw_all := lw_g (lw_at lw_m14 8 rfl) rfl
theorem q3272 : (Jvm.Cond.methodLink "AcousticCameraLaw" (244 : Nat) ({ cls := "AcousticCameraModel", name := "sources", desc := "()I" } : Jvm.MethodName)) ∈ lw_all := lw_g (lw_at lw_m14 16 rfl) rfl
theorem q3276 : (Jvm.Cond.methodLink "AcousticCameraLaw" (248 : Nat) ({ cls := "AcousticCameraModel", name := "sourceAt", desc := "(III)I" } : Jvm.MethodName)) ∈ lw_all := lw_g (lw_at lw_m14 20 rfl) rfl
theorem q3288 : (Jvm.Cond.methodLink "AcousticCameraLaw" (251 : Nat) ({ cls := "AcousticCameraModel", name := "isOn", desc := "(I)Z" } : Jvm.MethodName)) ∈ lw_all := lw_g (lw_at lw_m14 32 rfl) rfl
theorem q3292 : (Jvm.Cond.methodLink "AcousticCameraLaw" (254 : Nat) ({ cls := "AcousticCameraModel", name := "waveAt", desc := "(II)I" } : Jvm.MethodName)) ∈ lw_all := lw_g (lw_at lw_m14 36 rfl) rfl
theorem q3296 : (Jvm.Cond.methodLink "AcousticCameraLaw" (258 : Nat) ({ cls := "AcousticCameraModel", name := "samples", desc := "()I" } : Jvm.MethodName)) ∈ lw_all := lw_g (lw_at lw_m14 40 rfl) rfl
theorem q3300 : (Jvm.Cond.methodLink "AcousticCameraLaw" (261 : Nat) ({ cls := "AcousticCameraModel", name := "delay", desc := "(II)I" } : Jvm.MethodName)) ∈ lw_all := lw_g (lw_at lw_m14 44 rfl) rfl
theorem q3304 : (Jvm.Cond.methodLink "AcousticCameraLaw" (264 : Nat) ({ cls := "AcousticCameraModel", name := "delayTo", desc := "(III)I" } : Jvm.MethodName)) ∈ lw_all := lw_g (lw_at lw_m14 48 rfl) rfl
theorem q3311 : (Jvm.Cond.methodLink "AcousticCameraLaw" (267 : Nat) ({ cls := "AcousticCameraModel", name := "spread", desc := "(I)I" } : Jvm.MethodName)) ∈ lw_all := lw_g (lw_at lw_m14 55 rfl) rfl
theorem q3320 : (Jvm.Cond.methodLink "AcousticCameraLaw" (270 : Nat) ({ cls := "AcousticCameraModel", name := "window", desc := "(I)I" } : Jvm.MethodName)) ∈ lw_all := lw_g (lw_at lw_m14 64 rfl) rfl
theorem q3332 : (Jvm.Cond.methodLink "AcousticCameraLaw" (273 : Nat) ({ cls := "AcousticCameraModel", name := "sample", desc := "(II)I" } : Jvm.MethodName)) ∈ lw_all := lw_g (lw_at lw_m14 76 rfl) rfl
theorem q3336 : (Jvm.Cond.methodLink "AcousticCameraLaw" (276 : Nat) ({ cls := "AcousticCameraModel", name := "beam", desc := "(II)I" } : Jvm.MethodName)) ∈ lw_all := lw_g (lw_at lw_m14 80 rfl) rfl
theorem q3344 : (Jvm.Cond.methodLink "AcousticCameraLaw" (279 : Nat) ({ cls := "AcousticCameraModel", name := "power", desc := "(I)J" } : Jvm.MethodName)) ∈ lw_all := lw_g (lw_at lw_m14 88 rfl) rfl
theorem q3360 : (Jvm.Cond.methodLink "AcousticCameraLaw" (282 : Nat) ({ cls := "AcousticCameraModel", name := "powerAt", desc := "(II)J" } : Jvm.MethodName)) ∈ lw_all := lw_g (lw_at lw_m14 104 rfl) rfl
theorem q3368 : (Jvm.Cond.methodLink "AcousticCameraLaw" (286 : Nat) ({ cls := "AcousticCameraModel", name := "best", desc := "()I" } : Jvm.MethodName)) ∈ lw_all := lw_g (lw_at lw_m14 112 rfl) rfl
theorem q3380 : (Jvm.Cond.methodLink "AcousticCameraLaw" (289 : Nat) ({ cls := "AcousticCameraModel", name := "bestPower", desc := "()J" } : Jvm.MethodName)) ∈ lw_all := lw_g (lw_at lw_m14 124 rfl) rfl
theorem q3384 : (Jvm.Cond.methodLink "AcousticCameraLaw" (292 : Nat) ({ cls := "AcousticCameraModel", name := "meanPower", desc := "()J" } : Jvm.MethodName)) ∈ lw_all := lw_g (lw_at lw_m14 128 rfl) rfl
theorem q3388 : (Jvm.Cond.methodLink "AcousticCameraLaw" (295 : Nat) ({ cls := "AcousticCameraModel", name := "peaks", desc := "()I" } : Jvm.MethodName)) ∈ lw_all := lw_g (lw_at lw_m14 132 rfl) rfl
theorem q3396 : (Jvm.Cond.methodLink "AcousticCameraLaw" (298 : Nat) ({ cls := "AcousticCameraModel", name := "peakAt", desc := "(I)I" } : Jvm.MethodName)) ∈ lw_all := lw_g (lw_at lw_m14 140 rfl) rfl
theorem q3404 : (Jvm.Cond.methodLink "AcousticCameraLaw" (301 : Nat) ({ cls := "AcousticCameraModel", name := "isPeak", desc := "(I)Z" } : Jvm.MethodName)) ∈ lw_all := lw_g (lw_at lw_m14 148 rfl) rfl
theorem q3408 : (Jvm.Cond.methodLink "AcousticCameraLaw" (311 : Nat) ({ cls := "AcousticCameraModel", name := "contrast", desc := "()F" } : Jvm.MethodName)) ∈ lw_all := lw_g (lw_at lw_m14 152 rfl) rfl
theorem q3415 : (Jvm.Cond.methodLink "AcousticCameraLaw" (314 : Nat) ({ cls := "AcousticCameraModel", name := "alias", desc := "(III)I" } : Jvm.MethodName)) ∈ lw_all := lw_g (lw_at lw_m14 159 rfl) rfl
theorem q3430 : (Jvm.Cond.methodLink "AcousticCameraLaw" (317 : Nat) ({ cls := "AcousticCameraModel", name := "isAlias", desc := "(III)Z" } : Jvm.MethodName)) ∈ lw_all := lw_g (lw_at lw_m14 174 rfl) rfl
theorem q3441 : (Jvm.Cond.methodLink "AcousticCameraLaw" (320 : Nat) ({ cls := "AcousticCameraModel", name := "aliases", desc := "(II)I" } : Jvm.MethodName)) ∈ lw_all := lw_g (lw_at lw_m14 185 rfl) rfl
theorem q3445 : (Jvm.Cond.methodLink "AcousticCameraLaw" (323 : Nat) ({ cls := "AcousticCameraModel", name := "blockPower", desc := "(III)J" } : Jvm.MethodName)) ∈ lw_all := lw_g (lw_at lw_m14 189 rfl) rfl
theorem q3457 : (Jvm.Cond.methodLink "AcousticCameraLaw" (326 : Nat) ({ cls := "AcousticCameraModel", name := "blockBest", desc := "(II)I" } : Jvm.MethodName)) ∈ lw_all := lw_g (lw_at lw_m14 201 rfl) rfl
theorem q3465 : (Jvm.Cond.methodLink "AcousticCameraLaw" (329 : Nat) ({ cls := "AcousticCameraModel", name := "path", desc := "(I)I" } : Jvm.MethodName)) ∈ lw_all := lw_g (lw_at lw_m14 209 rfl) rfl
theorem q3469 : (Jvm.Cond.methodLink "AcousticCameraLaw" (332 : Nat) ({ cls := "AcousticCameraModel", name := "trackScore", desc := "(I)J" } : Jvm.MethodName)) ∈ lw_all := lw_g (lw_at lw_m14 213 rfl) rfl
theorem q3493 : (Jvm.Cond.methodLink "AcousticCameraLaw" (335 : Nat) ({ cls := "AcousticCameraModel", name := "trackCell", desc := "(II)I" } : Jvm.MethodName)) ∈ lw_all := lw_g (lw_at lw_m14 237 rfl) rfl
theorem q3497 : (Jvm.Cond.methodLink "AcousticCameraLaw" (304 : Nat) ({ cls := "AcousticCameraModel", name := "zonePower", desc := "(I)J" } : Jvm.MethodName)) ∈ lw_all := lw_g (lw_at lw_m15 1 rfl) rfl
theorem q3509 : (Jvm.Cond.methodLink "AcousticCameraLaw" (307 : Nat) ({ cls := "AcousticCameraModel", name := "zoneBest", desc := "(I)I" } : Jvm.MethodName)) ∈ lw_all := lw_g (lw_at lw_m15 13 rfl) rfl
theorem q3513 : (Jvm.Cond.methodLink "AcousticCameraLaw" (338 : Nat) ({ cls := "AcousticCameraModel", name := "movingPower", desc := "(III)J" } : Jvm.MethodName)) ∈ lw_all := lw_g (lw_at lw_m15 17 rfl) rfl
theorem q3524 : (Jvm.Cond.methodLink "AcousticCameraLaw" (341 : Nat) ({ cls := "AcousticCameraModel", name := "bestVelocity", desc := "(III)I" } : Jvm.MethodName)) ∈ lw_all := lw_g (lw_at lw_m15 28 rfl) rfl
theorem q3528 : (Jvm.Cond.methodLink "AcousticCameraLaw" (344 : Nat) ({ cls := "AcousticCameraModel", name := "correlation", desc := "(III)J" } : Jvm.MethodName)) ∈ lw_all := lw_g (lw_at lw_m15 32 rfl) rfl
theorem q3536 : (Jvm.Cond.methodLink "AcousticCameraLaw" (347 : Nat) ({ cls := "AcousticCameraModel", name := "bestLag", desc := "(III)I" } : Jvm.MethodName)) ∈ lw_all := lw_g (lw_at lw_m15 40 rfl) rfl
theorem q3540 : (Jvm.Cond.methodLink "AcousticCameraLaw" (350 : Nat) ({ cls := "AcousticCameraModel", name := "level", desc := "(I)J" } : Jvm.MethodName)) ∈ lw_all := lw_g (lw_at lw_m15 44 rfl) rfl
theorem q3548 : (Jvm.Cond.methodLink "AcousticCameraLaw" (353 : Nat) ({ cls := "AcousticCameraModel", name := "loudest", desc := "(I)I" } : Jvm.MethodName)) ∈ lw_all := lw_g (lw_at lw_m15 52 rfl) rfl
theorem q3552 : (Jvm.Cond.methodLink "AcousticCameraLaw" (356 : Nat) ({ cls := "AcousticCameraModel", name := "writeMap", desc := "()I" } : Jvm.MethodName)) ∈ lw_all := lw_g (lw_at lw_m15 56 rfl) rfl
theorem q3557 : (Jvm.Cond.methodLink "AcousticCameraLaw" (359 : Nat) ({ cls := "AcousticCameraModel", name := "mapByte", desc := "(I)I" } : Jvm.MethodName)) ∈ lw_all := lw_g (lw_at lw_m15 61 rfl) rfl
theorem q3561 : (Jvm.Cond.methodLink "AcousticCameraLaw" (362 : Nat) ({ cls := "AcousticCameraModel", name := "pointBest", desc := "(II)I" } : Jvm.MethodName)) ∈ lw_all := lw_g (lw_at lw_m15 65 rfl) rfl
theorem q3569 : (Jvm.Cond.methodLink "AcousticCameraLaw" (365 : Nat) ({ cls := "AcousticCameraModel", name := "pointPower", desc := "(III)J" } : Jvm.MethodName)) ∈ lw_all := lw_g (lw_at lw_m15 73 rfl) rfl
theorem q3573 : (Jvm.Cond.methodLink "AcousticCameraLaw" (368 : Nat) ({ cls := "AcousticCameraModel", name := "bestWithout", desc := "(I)I" } : Jvm.MethodName)) ∈ lw_all := lw_g (lw_at lw_m15 77 rfl) rfl
theorem q3577 : (Jvm.Cond.methodLink "AcousticCameraLaw" (371 : Nat) ({ cls := "AcousticCameraModel", name := "bestIfOff", desc := "(I)I" } : Jvm.MethodName)) ∈ lw_all := lw_g (lw_at lw_m15 81 rfl) rfl
theorem q3581 : (Jvm.Cond.methodLink "AcousticCameraLaw" (375 : Nat) ({ cls := "AcousticCameraModel", name := "mute", desc := "(IZ)Z" } : Jvm.MethodName)) ∈ lw_all := lw_g (lw_at lw_m15 85 rfl) rfl
theorem q3593 : (Jvm.Cond.methodLink "AcousticCameraLaw" (378 : Nat) ({ cls := "AcousticCameraModel", name := "setWeight", desc := "(II)I" } : Jvm.MethodName)) ∈ lw_all := lw_g (lw_at lw_m15 97 rfl) rfl
theorem q3597 : (Jvm.Cond.methodLink "AcousticCameraLaw" (381 : Nat) ({ cls := "AcousticCameraModel", name := "setOn", desc := "(IZ)Z" } : Jvm.MethodName)) ∈ lw_all := lw_g (lw_at lw_m15 101 rfl) rfl
theorem q3601 : (Jvm.Cond.methodLink "AcousticCameraLaw" (384 : Nat) ({ cls := "AcousticCameraModel", name := "moveSource", desc := "(III)I" } : Jvm.MethodName)) ∈ lw_all := lw_g (lw_at lw_m15 105 rfl) rfl
theorem q3609 : (Jvm.Cond.methodLink "AcousticCameraLaw" (387 : Nat) ({ cls := "AcousticCameraModel", name := "setVelocity", desc := "(III)I" } : Jvm.MethodName)) ∈ lw_all := lw_g (lw_at lw_m15 113 rfl) rfl
theorem q3613 : (Jvm.Cond.methodLink "AcousticCameraLaw" (390 : Nat) ({ cls := "AcousticCameraModel", name := "clean", desc := "(I)I" } : Jvm.MethodName)) ∈ lw_all := lw_g (lw_at lw_m15 117 rfl) rfl
theorem q3621 : (Jvm.Cond.methodLink "AcousticCameraLaw" (393 : Nat) ({ cls := "AcousticCameraModel", name := "cleaned", desc := "()I" } : Jvm.MethodName)) ∈ lw_all := lw_g (lw_at lw_m15 125 rfl) rfl
theorem q3625 : (Jvm.Cond.methodLink "AcousticCameraLaw" (396 : Nat) ({ cls := "AcousticCameraModel", name := "undo", desc := "()I" } : Jvm.MethodName)) ∈ lw_all := lw_g (lw_at lw_m15 129 rfl) rfl
theorem q3629 : (Jvm.Cond.methodLink "AcousticCameraLaw" (400 : Nat) ({ cls := "AcousticCameraModel", name := "undoable", desc := "()I" } : Jvm.MethodName)) ∈ lw_all := lw_g (lw_at lw_m15 133 rfl) rfl
theorem q3633 : (Jvm.Cond.methodLink "AcousticCameraLaw" (403 : Nat) ({ cls := "AcousticCameraModel", name := "save", desc := "(I)I" } : Jvm.MethodName)) ∈ lw_all := lw_g (lw_at lw_m15 137 rfl) rfl
theorem q3637 : (Jvm.Cond.methodLink "AcousticCameraLaw" (406 : Nat) ({ cls := "AcousticCameraModel", name := "restore", desc := "(I)I" } : Jvm.MethodName)) ∈ lw_all := lw_g (lw_at lw_m15 141 rfl) rfl
theorem q137 : (Jvm.Cond.initialized "AcousticCamera") ∈ lw_all := lw_g (lw_at lw_m1 1 rfl) rfl
theorem q192 : (Jvm.Cond.instantiable "AcousticCamera" (8 : Nat)) ∈ lw_all := lw_g (lw_at lw_m1 56 rfl) rfl
theorem q194 : (Jvm.Cond.instanceMethod ({ cls := "AcousticCamera", name := "<init>", desc := "()V" } : Jvm.MethodName)) ∈ lw_all := lw_g (lw_at lw_m1 58 rfl) rfl
theorem q195 : (Jvm.Cond.code ({ cls := "AcousticCamera", name := "<init>", desc := "()V" } : Jvm.MethodName) prog_1_method_6_code (1 : Nat) (Option.none : Option Jvm.ClassFile.FieldType)) ∈ lw_all := lw_g (lw_at lw_m1 59 rfl) rfl
theorem q196 : (Jvm.Cond.methodLink "AcousticCamera" (49 : Nat) ({ cls := "java/lang/Object", name := "<init>", desc := "()V" } : Jvm.MethodName)) ∈ lw_all := lw_g (lw_at lw_m1 60 rfl) rfl
theorem q199 : (Jvm.Cond.classLink "AcousticCamera" (62 : Nat) "java/util/ArrayDeque") ∈ lw_all := lw_g (lw_at lw_m1 63 rfl) rfl
theorem q201 : (Jvm.Cond.methodLink "AcousticCamera" (64 : Nat) ({ cls := "java/util/ArrayDeque", name := "<init>", desc := "()V" } : Jvm.MethodName)) ∈ lw_all := lw_g (lw_at lw_m1 65 rfl) rfl
theorem q221 : (Jvm.Cond.classLink "AcousticCamera" (69 : Nat) "AcousticCamera$State") ∈ lw_all := lw_g (lw_at lw_m1 85 rfl) rfl
theorem q223 : (Jvm.Cond.classLink "AcousticCamera" (75 : Nat) "java/lang/StringBuilder") ∈ lw_all := lw_g (lw_at lw_m1 87 rfl) rfl
theorem q225 : (Jvm.Cond.methodLink "AcousticCamera" (77 : Nat) ({ cls := "java/lang/StringBuilder", name := "<init>", desc := "()V" } : Jvm.MethodName)) ∈ lw_all := lw_g (lw_at lw_m1 89 rfl) rfl
theorem q255 : (Jvm.Cond.fieldLink "AcousticCamera" (54 : Nat) "AcousticCamera" "buffer" "[B") ∈ lw_all := lw_g (lw_at lw_m1 119 rfl) rfl
theorem q256 : (Jvm.Cond.fieldLink "AcousticCamera" (151 : Nat) "AcousticCamera" "buffered" "I") ∈ lw_all := lw_g (lw_at lw_m1 120 rfl) rfl
theorem q257 : (Jvm.Cond.fieldLink "AcousticCamera" (154 : Nat) "AcousticCamera" "parseError" "I") ∈ lw_all := lw_g (lw_at lw_m1 121 rfl) rfl
theorem q258 : (Jvm.Cond.fieldLink "AcousticCamera" (58 : Nat) "AcousticCamera" "errorPosition" "I") ∈ lw_all := lw_g (lw_at lw_m1 122 rfl) rfl
theorem q259 : (Jvm.Cond.fieldLink "AcousticCamera" (95 : Nat) "AcousticCamera" "state" "LAcousticCamera$State;") ∈ lw_all := lw_g (lw_at lw_m1 123 rfl) rfl
theorem q260 : (Jvm.Cond.fieldLink "AcousticCamera" (65 : Nat) "AcousticCamera" "past" "Ljava/util/ArrayDeque;") ∈ lw_all := lw_g (lw_at lw_m1 124 rfl) rfl
theorem q261 : (Jvm.Cond.fieldLink "AcousticCamera" (71 : Nat) "AcousticCamera" "saved" "[LAcousticCamera$State;") ∈ lw_all := lw_g (lw_at lw_m1 125 rfl) rfl
theorem q262 : (Jvm.Cond.fieldLink "AcousticCamera" (78 : Nat) "AcousticCamera" "label" "Ljava/lang/StringBuilder;") ∈ lw_all := lw_g (lw_at lw_m1 126 rfl) rfl
theorem q263 : (Jvm.Cond.laysFinal "AcousticCamera" "AcousticCamera" "buffer" "[B") ∈ lw_all := lw_g (lw_at lw_m1 127 rfl) rfl
theorem q264 : (Jvm.Cond.soleField "AcousticCamera" "buffer") ∈ lw_all := lw_g (lw_at lw_m1 128 rfl) rfl
theorem q265 : (Jvm.Cond.lays "AcousticCamera" "AcousticCamera" "buffered" "I") ∈ lw_all := lw_g (lw_at lw_m1 129 rfl) rfl
theorem q266 : (Jvm.Cond.soleField "AcousticCamera" "buffered") ∈ lw_all := lw_g (lw_at lw_m1 130 rfl) rfl
theorem q267 : (Jvm.Cond.lays "AcousticCamera" "AcousticCamera" "parseError" "I") ∈ lw_all := lw_g (lw_at lw_m1 131 rfl) rfl
theorem q268 : (Jvm.Cond.soleField "AcousticCamera" "parseError") ∈ lw_all := lw_g (lw_at lw_m1 132 rfl) rfl
theorem q269 : (Jvm.Cond.lays "AcousticCamera" "AcousticCamera" "errorPosition" "I") ∈ lw_all := lw_g (lw_at lw_m1 133 rfl) rfl
theorem q270 : (Jvm.Cond.soleField "AcousticCamera" "errorPosition") ∈ lw_all := lw_g (lw_at lw_m1 134 rfl) rfl
theorem q271 : (Jvm.Cond.lays "AcousticCamera" "AcousticCamera" "state" "LAcousticCamera$State;") ∈ lw_all := lw_g (lw_at lw_m1 135 rfl) rfl
theorem q272 : (Jvm.Cond.soleField "AcousticCamera" "state") ∈ lw_all := lw_g (lw_at lw_m1 136 rfl) rfl
theorem q273 : (Jvm.Cond.laysFinal "AcousticCamera" "AcousticCamera" "past" "Ljava/util/ArrayDeque;") ∈ lw_all := lw_g (lw_at lw_m1 137 rfl) rfl
theorem q274 : (Jvm.Cond.soleField "AcousticCamera" "past") ∈ lw_all := lw_g (lw_at lw_m1 138 rfl) rfl
theorem q275 : (Jvm.Cond.laysFinal "AcousticCamera" "AcousticCamera" "saved" "[LAcousticCamera$State;") ∈ lw_all := lw_g (lw_at lw_m1 139 rfl) rfl
theorem q276 : (Jvm.Cond.soleField "AcousticCamera" "saved") ∈ lw_all := lw_g (lw_at lw_m1 140 rfl) rfl
theorem q277 : (Jvm.Cond.laysFinal "AcousticCamera" "AcousticCamera" "label" "Ljava/lang/StringBuilder;") ∈ lw_all := lw_g (lw_at lw_m1 141 rfl) rfl
theorem q278 : (Jvm.Cond.soleField "AcousticCamera" "label") ∈ lw_all := lw_g (lw_at lw_m1 142 rfl) rfl
theorem q279 : (Jvm.Cond.superclass "AcousticCamera" "java/lang/Object") ∈ lw_all := lw_g (lw_at lw_m1 143 rfl) rfl
theorem q281 : (Jvm.Cond.instanceMethod ({ cls := "AcousticCamera", name := "append", desc := "(IIIII)I" } : Jvm.MethodName)) ∈ lw_all := lw_g (lw_at lw_m1 145 rfl) rfl
theorem q282 : (Jvm.Cond.selects "AcousticCamera" ({ cls := "AcousticCamera", name := "append", desc := "(IIIII)I" } : Jvm.MethodName) ({ cls := "AcousticCamera", name := "append", desc := "(IIIII)I" } : Jvm.MethodName)) ∈ lw_all := lw_g (lw_at lw_m1 146 rfl) rfl
theorem q283 : (Jvm.Cond.code ({ cls := "AcousticCamera", name := "append", desc := "(IIIII)I" } : Jvm.MethodName) prog_1_method_19_code (11 : Nat) (Option.some Jvm.ClassFile.FieldType.int)) ∈ lw_all := lw_g (lw_at lw_m1 147 rfl) rfl
theorem q286 : (Jvm.Cond.instanceMethod ({ cls := "AcousticCamera", name := "parseError", desc := "()I" } : Jvm.MethodName)) ∈ lw_all := lw_g (lw_at lw_m1 150 rfl) rfl
theorem q287 : (Jvm.Cond.selects "AcousticCamera" ({ cls := "AcousticCamera", name := "parseError", desc := "()I" } : Jvm.MethodName) ({ cls := "AcousticCamera", name := "parseError", desc := "()I" } : Jvm.MethodName)) ∈ lw_all := lw_g (lw_at lw_m1 151 rfl) rfl
theorem q288 : (Jvm.Cond.code ({ cls := "AcousticCamera", name := "parseError", desc := "()I" } : Jvm.MethodName) prog_1_method_21_code (1 : Nat) (Option.some Jvm.ClassFile.FieldType.int)) ∈ lw_all := lw_g (lw_at lw_m1 152 rfl) rfl
theorem q290 : (Jvm.Cond.instanceMethod ({ cls := "AcousticCamera", name := "errorPosition", desc := "()I" } : Jvm.MethodName)) ∈ lw_all := lw_g (lw_at lw_m1 154 rfl) rfl
theorem q291 : (Jvm.Cond.selects "AcousticCamera" ({ cls := "AcousticCamera", name := "errorPosition", desc := "()I" } : Jvm.MethodName) ({ cls := "AcousticCamera", name := "errorPosition", desc := "()I" } : Jvm.MethodName)) ∈ lw_all := lw_g (lw_at lw_m1 155 rfl) rfl
theorem q292 : (Jvm.Cond.code ({ cls := "AcousticCamera", name := "errorPosition", desc := "()I" } : Jvm.MethodName) prog_1_method_22_code (1 : Nat) (Option.some Jvm.ClassFile.FieldType.int)) ∈ lw_all := lw_g (lw_at lw_m1 156 rfl) rfl
theorem q294 : (Jvm.Cond.instanceMethod ({ cls := "AcousticCamera", name := "buffered", desc := "()I" } : Jvm.MethodName)) ∈ lw_all := lw_g (lw_at lw_m1 158 rfl) rfl
theorem q295 : (Jvm.Cond.selects "AcousticCamera" ({ cls := "AcousticCamera", name := "buffered", desc := "()I" } : Jvm.MethodName) ({ cls := "AcousticCamera", name := "buffered", desc := "()I" } : Jvm.MethodName)) ∈ lw_all := lw_g (lw_at lw_m1 159 rfl) rfl
theorem q296 : (Jvm.Cond.code ({ cls := "AcousticCamera", name := "buffered", desc := "()I" } : Jvm.MethodName) prog_1_method_23_code (1 : Nat) (Option.some Jvm.ClassFile.FieldType.int)) ∈ lw_all := lw_g (lw_at lw_m1 160 rfl) rfl
theorem q298 : (Jvm.Cond.instanceMethod ({ cls := "AcousticCamera", name := "mics", desc := "()I" } : Jvm.MethodName)) ∈ lw_all := lw_g (lw_at lw_m1 162 rfl) rfl
theorem q299 : (Jvm.Cond.selects "AcousticCamera" ({ cls := "AcousticCamera", name := "mics", desc := "()I" } : Jvm.MethodName) ({ cls := "AcousticCamera", name := "mics", desc := "()I" } : Jvm.MethodName)) ∈ lw_all := lw_g (lw_at lw_m1 163 rfl) rfl
theorem q300 : (Jvm.Cond.code ({ cls := "AcousticCamera", name := "mics", desc := "()I" } : Jvm.MethodName) prog_1_method_24_code (1 : Nat) (Option.some Jvm.ClassFile.FieldType.int)) ∈ lw_all := lw_g (lw_at lw_m1 164 rfl) rfl
theorem q301 : (Jvm.Cond.interfaceEntry "AcousticCamera" (117 : Nat)) ∈ lw_tbl := lw_at lw_m1 165 rfl
theorem q302 : (Jvm.Cond.methodLink "AcousticCamera" (117 : Nat) ({ cls := "java/util/List", name := "size", desc := "()I" } : Jvm.MethodName)) ∈ lw_all := lw_g (lw_at lw_m1 166 rfl) rfl
theorem q332 : (Jvm.Cond.instanceMethod ({ cls := "AcousticCamera", name := "columns", desc := "()I" } : Jvm.MethodName)) ∈ lw_all := lw_g (lw_at lw_m1 196 rfl) rfl
theorem q333 : (Jvm.Cond.selects "AcousticCamera" ({ cls := "AcousticCamera", name := "columns", desc := "()I" } : Jvm.MethodName) ({ cls := "AcousticCamera", name := "columns", desc := "()I" } : Jvm.MethodName)) ∈ lw_all := lw_g (lw_at lw_m1 197 rfl) rfl
theorem q334 : (Jvm.Cond.code ({ cls := "AcousticCamera", name := "columns", desc := "()I" } : Jvm.MethodName) prog_1_method_27_code (1 : Nat) (Option.some Jvm.ClassFile.FieldType.int)) ∈ lw_all := lw_g (lw_at lw_m1 198 rfl) rfl
theorem q336 : (Jvm.Cond.instanceMethod ({ cls := "AcousticCamera", name := "rows", desc := "()I" } : Jvm.MethodName)) ∈ lw_all := lw_g (lw_at lw_m1 200 rfl) rfl
theorem q337 : (Jvm.Cond.selects "AcousticCamera" ({ cls := "AcousticCamera", name := "rows", desc := "()I" } : Jvm.MethodName) ({ cls := "AcousticCamera", name := "rows", desc := "()I" } : Jvm.MethodName)) ∈ lw_all := lw_g (lw_at lw_m1 201 rfl) rfl
theorem q338 : (Jvm.Cond.code ({ cls := "AcousticCamera", name := "rows", desc := "()I" } : Jvm.MethodName) prog_1_method_28_code (1 : Nat) (Option.some Jvm.ClassFile.FieldType.int)) ∈ lw_all := lw_g (lw_at lw_m1 202 rfl) rfl
theorem q340 : (Jvm.Cond.instanceMethod ({ cls := "AcousticCamera", name := "sources", desc := "()I" } : Jvm.MethodName)) ∈ lw_all := lw_g (lw_at lw_m1 204 rfl) rfl
theorem q341 : (Jvm.Cond.selects "AcousticCamera" ({ cls := "AcousticCamera", name := "sources", desc := "()I" } : Jvm.MethodName) ({ cls := "AcousticCamera", name := "sources", desc := "()I" } : Jvm.MethodName)) ∈ lw_all := lw_g (lw_at lw_m1 205 rfl) rfl
theorem q342 : (Jvm.Cond.code ({ cls := "AcousticCamera", name := "sources", desc := "()I" } : Jvm.MethodName) prog_1_method_30_code (1 : Nat) (Option.some Jvm.ClassFile.FieldType.int)) ∈ lw_all := lw_g (lw_at lw_m1 206 rfl) rfl
theorem q344 : (Jvm.Cond.instanceMethod ({ cls := "AcousticCamera", name := "samples", desc := "()I" } : Jvm.MethodName)) ∈ lw_all := lw_g (lw_at lw_m1 208 rfl) rfl
theorem q345 : (Jvm.Cond.selects "AcousticCamera" ({ cls := "AcousticCamera", name := "samples", desc := "()I" } : Jvm.MethodName) ({ cls := "AcousticCamera", name := "samples", desc := "()I" } : Jvm.MethodName)) ∈ lw_all := lw_g (lw_at lw_m1 209 rfl) rfl
theorem q346 : (Jvm.Cond.code ({ cls := "AcousticCamera", name := "samples", desc := "()I" } : Jvm.MethodName) prog_1_method_34_code (1 : Nat) (Option.some Jvm.ClassFile.FieldType.int)) ∈ lw_all := lw_g (lw_at lw_m1 210 rfl) rfl
theorem q348 : (Jvm.Cond.instanceMethod ({ cls := "AcousticCamera", name := "undoable", desc := "()I" } : Jvm.MethodName)) ∈ lw_all := lw_g (lw_at lw_m1 212 rfl) rfl
theorem q349 : (Jvm.Cond.selects "AcousticCamera" ({ cls := "AcousticCamera", name := "undoable", desc := "()I" } : Jvm.MethodName) ({ cls := "AcousticCamera", name := "undoable", desc := "()I" } : Jvm.MethodName)) ∈ lw_all := lw_g (lw_at lw_m1 213 rfl) rfl
theorem q350 : (Jvm.Cond.code ({ cls := "AcousticCamera", name := "undoable", desc := "()I" } : Jvm.MethodName) prog_1_method_87_code (1 : Nat) (Option.some Jvm.ClassFile.FieldType.int)) ∈ lw_all := lw_g (lw_at lw_m1 214 rfl) rfl
theorem q351 : (Jvm.Cond.methodLink "AcousticCamera" (453 : Nat) ({ cls := "java/util/ArrayDeque", name := "size", desc := "()I" } : Jvm.MethodName)) ∈ lw_all := lw_g (lw_at lw_m1 215 rfl) rfl
theorem q442 : (Jvm.Cond.instanceMethod ({ cls := "AcousticCamera", name := "load", desc := "(I)I" } : Jvm.MethodName)) ∈ lw_all := lw_g (lw_at lw_m2 66 rfl) rfl
theorem q443 : (Jvm.Cond.selects "AcousticCamera" ({ cls := "AcousticCamera", name := "load", desc := "(I)I" } : Jvm.MethodName) ({ cls := "AcousticCamera", name := "load", desc := "(I)I" } : Jvm.MethodName)) ∈ lw_all := lw_g (lw_at lw_m2 67 rfl) rfl
theorem q444 : (Jvm.Cond.codeWith ({ cls := "AcousticCamera", name := "load", desc := "(I)I" } : Jvm.MethodName) prog_1_method_20_code (4 : Nat) (Option.some Jvm.ClassFile.FieldType.int) [((20 : Nat), (91 : Nat), (98 : Nat), (175 : Nat)), ((20 : Nat), (91 : Nat), (123 : Nat), (0 : Nat)), ((98 : Nat), (124 : Nat), (123 : Nat), (0 : Nat))]) ∈ lw_all := lw_g (lw_at lw_m2 68 rfl) rfl
theorem q445 : (Jvm.Cond.classLink "AcousticCamera" (175 : Nat) "AcousticCamera$Flaw") ∈ lw_all := lw_g (lw_at lw_m2 69 rfl) rfl
theorem q446 : (Jvm.Cond.methodLink "AcousticCamera" (122 : Nat) ({ cls := "AcousticCamera", name := "checkIndex", desc := "(II)V" } : Jvm.MethodName)) ∈ lw_all := lw_g (lw_at lw_m2 70 rfl) rfl
theorem q447 : (Jvm.Cond.static ({ cls := "AcousticCamera", name := "checkIndex", desc := "(II)V" } : Jvm.MethodName)) ∈ lw_all := lw_g (lw_at lw_m2 71 rfl) rfl
theorem q448 : (Jvm.Cond.code ({ cls := "AcousticCamera", name := "checkIndex", desc := "(II)V" } : Jvm.MethodName) prog_1_method_8_code (2 : Nat) (Option.none : Option Jvm.ClassFile.FieldType)) ∈ lw_all := lw_g (lw_at lw_m2 72 rfl) rfl
theorem q449 : (Jvm.Cond.methodLink "AcousticCamera" (85 : Nat) ({ cls := "AcousticCamera", name := "in", desc := "(JJJ)Z" } : Jvm.MethodName)) ∈ lw_all := lw_g (lw_at lw_m2 73 rfl) rfl
theorem q450 : (Jvm.Cond.static ({ cls := "AcousticCamera", name := "in", desc := "(JJJ)Z" } : Jvm.MethodName)) ∈ lw_all := lw_g (lw_at lw_m2 74 rfl) rfl
theorem q451 : (Jvm.Cond.code ({ cls := "AcousticCamera", name := "in", desc := "(JJJ)Z" } : Jvm.MethodName) prog_1_method_1_code (6 : Nat) (Option.some Jvm.ClassFile.FieldType.boolean)) ∈ lw_all := lw_g (lw_at lw_m2 75 rfl) rfl
theorem q452 : (Jvm.Cond.classLink "AcousticCamera" (89 : Nat) "java/lang/IndexOutOfBoundsException") ∈ lw_all := lw_g (lw_at lw_m2 76 rfl) rfl
theorem q461 : (Jvm.Cond.methodLink "AcousticCamera" (91 : Nat) ({ cls := "java/lang/IndexOutOfBoundsException", name := "<init>", desc := "()V" } : Jvm.MethodName)) ∈ lw_all := lw_g (lw_at lw_m2 85 rfl) rfl
theorem q474 : (Jvm.Cond.classLink "AcousticCamera" (157 : Nat) "AcousticCamera$Parser") ∈ lw_all := lw_g (lw_at lw_m2 98 rfl) rfl
theorem q476 : (Jvm.Cond.methodLink "AcousticCamera" (159 : Nat) ({ cls := "AcousticCamera$Parser", name := "<init>", desc := "([BI)V" } : Jvm.MethodName)) ∈ lw_all := lw_g (lw_at lw_m2 100 rfl) rfl
theorem q774 : (Jvm.Cond.fieldLinkNest "AcousticCamera" (111 : Nat) "AcousticCamera$Setup" "mics" "Ljava/util/List;" "AcousticCamera") ∈ lw_tbl := lw_at lw_m3 158 rfl
theorem q782 : (Jvm.Cond.fieldLinkNest "AcousticCamera" (300 : Nat) "AcousticCamera$Setup" "zones" "Ljava/util/List;" "AcousticCamera") ∈ lw_tbl := lw_at lw_m3 166 rfl
theorem q804 : (Jvm.Cond.fieldLinkNest "AcousticCamera" (140 : Nat) "AcousticCamera$Setup" "samples" "I" "AcousticCamera") ∈ lw_tbl := lw_at lw_m3 188 rfl
theorem q818 : (Jvm.Cond.fieldLinkNest "AcousticCamera" (210 : Nat) "AcousticCamera$Setup" "columns" "I" "AcousticCamera") ∈ lw_tbl := lw_at lw_m3 202 rfl
theorem q822 : (Jvm.Cond.fieldLinkNest "AcousticCamera" (213 : Nat) "AcousticCamera$Setup" "rows" "I" "AcousticCamera") ∈ lw_tbl := lw_at lw_m3 206 rfl
theorem q825 : (Jvm.Cond.fieldLinkNest "AcousticCamera" (248 : Nat) "AcousticCamera$Setup" "delays" "[[I" "AcousticCamera") ∈ lw_tbl := lw_at lw_m3 209 rfl
theorem q887 : (Jvm.Cond.methodLink "AcousticCamera" (162 : Nat) ({ cls := "AcousticCamera$Parser", name := "parse", desc := "()LAcousticCamera$Setup;" } : Jvm.MethodName)) ∈ lw_all := lw_g (lw_at lw_m4 31 rfl) rfl
theorem q979 : (Jvm.Cond.fieldLinkNest "AcousticCamera" (177 : Nat) "AcousticCamera$Flaw" "code" "I" "AcousticCamera") ∈ lw_tbl := lw_at lw_m4 123 rfl
theorem q981 : (Jvm.Cond.fieldLinkNest "AcousticCamera" (180 : Nat) "AcousticCamera$Flaw" "position" "I" "AcousticCamera") ∈ lw_tbl := lw_at lw_m4 125 rfl
theorem q1097 : (Jvm.Cond.fieldLinkNest "AcousticCamera" (194 : Nat) "AcousticCamera$Mic" "x" "I" "AcousticCamera") ∈ lw_tbl := lw_at lw_m5 1 rfl
theorem q1100 : (Jvm.Cond.fieldLinkNest "AcousticCamera" (197 : Nat) "AcousticCamera$Mic" "y" "I" "AcousticCamera") ∈ lw_tbl := lw_at lw_m5 4 rfl
theorem q1103 : (Jvm.Cond.fieldLinkNest "AcousticCamera" (200 : Nat) "AcousticCamera$Mic" "gain" "I" "AcousticCamera") ∈ lw_tbl := lw_at lw_m5 7 rfl
theorem q1141 : (Jvm.Cond.selects "AcousticCamera" ({ cls := "java/lang/Object", name := "getClass", desc := "()Ljava/lang/Class;" } : Jvm.MethodName) ({ cls := "java/lang/Object", name := "getClass", desc := "()Ljava/lang/Class;" } : Jvm.MethodName)) ∈ lw_all := lw_g (lw_at lw_m5 45 rfl) rfl
theorem q1304 : (Jvm.Cond.selects "AcousticCamera" ({ cls := "java/lang/Object", name := "equals", desc := "(Ljava/lang/Object;)Z" } : Jvm.MethodName) ({ cls := "java/lang/Object", name := "equals", desc := "(Ljava/lang/Object;)Z" } : Jvm.MethodName)) ∈ lw_all := lw_g (lw_at lw_m5 208 rfl) rfl
theorem q1398 : (Jvm.Cond.fieldLinkNest "AcousticCamera" (471 : Nat) "AcousticCamera$Source" "wave" "LAcousticCamera$Wave;" "AcousticCamera") ∈ lw_tbl := lw_at lw_m6 62 rfl
theorem q1400 : (Jvm.Cond.fieldLinkNest "AcousticCamera" (475 : Nat) "AcousticCamera$Source" "from" "I" "AcousticCamera") ∈ lw_tbl := lw_at lw_m6 64 rfl
theorem q1402 : (Jvm.Cond.fieldLinkNest "AcousticCamera" (488 : Nat) "AcousticCamera$Source" "x" "I" "AcousticCamera") ∈ lw_tbl := lw_at lw_m6 66 rfl
theorem q1404 : (Jvm.Cond.fieldLinkNest "AcousticCamera" (489 : Nat) "AcousticCamera$Source" "y" "I" "AcousticCamera") ∈ lw_tbl := lw_at lw_m6 68 rfl
theorem q1406 : (Jvm.Cond.fieldLinkNest "AcousticCamera" (478 : Nat) "AcousticCamera$Source" "vx" "I" "AcousticCamera") ∈ lw_tbl := lw_at lw_m6 70 rfl
theorem q1408 : (Jvm.Cond.fieldLinkNest "AcousticCamera" (481 : Nat) "AcousticCamera$Source" "vy" "I" "AcousticCamera") ∈ lw_tbl := lw_at lw_m6 72 rfl
theorem q1650 : (Jvm.Cond.static ({ cls := "AcousticCamera", name := "root", desc := "(J)I" } : Jvm.MethodName)) ∈ lw_all := lw_g (lw_at lw_m7 74 rfl) rfl
theorem q1651 : (Jvm.Cond.code ({ cls := "AcousticCamera", name := "root", desc := "(J)I" } : Jvm.MethodName) prog_1_method_2_code (6 : Nat) (Option.some Jvm.ClassFile.FieldType.int)) ∈ lw_all := lw_g (lw_at lw_m7 75 rfl) rfl
theorem q1652 : (Jvm.Cond.constantLong "AcousticCamera" (1 : Nat) (32768 : Int64)) ∈ lw_all := lw_g (lw_at lw_m7 76 rfl) rfl
theorem q1653 : (Jvm.Cond.methodLink "AcousticCamera" (166 : Nat) ({ cls := "AcousticCamera$State", name := "<init>", desc := "(LAcousticCamera$Setup;)V" } : Jvm.MethodName)) ∈ lw_all := lw_g (lw_at lw_m7 77 rfl) rfl
theorem q1688 : (Jvm.Cond.fieldLinkNest "AcousticCamera" (107 : Nat) "AcousticCamera$State" "setup" "LAcousticCamera$Setup;" "AcousticCamera") ∈ lw_tbl := lw_at lw_m7 112 rfl
theorem q1690 : (Jvm.Cond.fieldLinkNest "AcousticCamera" (442 : Nat) "AcousticCamera$State" "muted" "Ljava/util/BitSet;" "AcousticCamera") ∈ lw_tbl := lw_at lw_m7 114 rfl
theorem q1692 : (Jvm.Cond.fieldLinkNest "AcousticCamera" (237 : Nat) "AcousticCamera$State" "on" "Ljava/util/BitSet;" "AcousticCamera") ∈ lw_tbl := lw_at lw_m7 116 rfl
theorem q1694 : (Jvm.Cond.fieldLinkNest "AcousticCamera" (129 : Nat) "AcousticCamera$State" "sources" "[LAcousticCamera$Source;" "AcousticCamera") ∈ lw_tbl := lw_at lw_m7 118 rfl
theorem q1696 : (Jvm.Cond.fieldLinkNest "AcousticCamera" (203 : Nat) "AcousticCamera$State" "weights" "[I" "AcousticCamera") ∈ lw_tbl := lw_at lw_m7 120 rfl
theorem q1698 : (Jvm.Cond.fieldLinkNest "AcousticCamera" (266 : Nat) "AcousticCamera$State" "recordings" "[[I" "AcousticCamera") ∈ lw_tbl := lw_at lw_m7 122 rfl
theorem q1700 : (Jvm.Cond.fieldLinkNest "AcousticCamera" (496 : Nat) "AcousticCamera$State" "cleaned" "I" "AcousticCamera") ∈ lw_tbl := lw_at lw_m7 124 rfl
theorem q1702 : (Jvm.Cond.fieldLinkNest "AcousticCamera" (448 : Nat) "AcousticCamera$State" "powers" "[J" "AcousticCamera") ∈ lw_tbl := lw_at lw_m7 126 rfl
theorem q1720 : (Jvm.Cond.methodLink "AcousticCamera" (169 : Nat) ({ cls := "AcousticCamera$State", name := "record", desc := "()V" } : Jvm.MethodName)) ∈ lw_all := lw_g (lw_at lw_m7 144 rfl) rfl
theorem q1772 : (Jvm.Cond.methodLink "AcousticCamera" (172 : Nat) ({ cls := "java/util/ArrayDeque", name := "clear", desc := "()V" } : Jvm.MethodName)) ∈ lw_all := lw_g (lw_at lw_m7 196 rfl) rfl
theorem q1779 : (Jvm.Cond.methodLink "AcousticCamera" (126 : Nat) ({ cls := "AcousticCamera$Setup", name := "cells", desc := "()I" } : Jvm.MethodName)) ∈ lw_all := lw_g (lw_at lw_m7 203 rfl) rfl
theorem q1780 : (Jvm.Cond.classLink "AcousticCamera" (82 : Nat) "java/lang/IllegalArgumentException") ∈ lw_all := lw_g (lw_at lw_m7 204 rfl) rfl
theorem q1781 : (Jvm.Cond.methodLink "AcousticCamera" (84 : Nat) ({ cls := "java/lang/IllegalArgumentException", name := "<init>", desc := "()V" } : Jvm.MethodName)) ∈ lw_all := lw_g (lw_at lw_m7 205 rfl) rfl
theorem q1790 : (Jvm.Cond.instanceMethod ({ cls := "AcousticCamera", name := "micAt", desc := "(II)I" } : Jvm.MethodName)) ∈ lw_all := lw_g (lw_at lw_m7 214 rfl) rfl
theorem q1791 : (Jvm.Cond.selects "AcousticCamera" ({ cls := "AcousticCamera", name := "micAt", desc := "(II)I" } : Jvm.MethodName) ({ cls := "AcousticCamera", name := "micAt", desc := "(II)I" } : Jvm.MethodName)) ∈ lw_all := lw_g (lw_at lw_m7 215 rfl) rfl
theorem q1792 : (Jvm.Cond.code ({ cls := "AcousticCamera", name := "micAt", desc := "(II)I" } : Jvm.MethodName) prog_1_method_25_code (4 : Nat) (Option.some Jvm.ClassFile.FieldType.int)) ∈ lw_all := lw_g (lw_at lw_m7 216 rfl) rfl
theorem q1793 : (Jvm.Cond.methodLink "AcousticCamera" (133 : Nat) ({ cls := "AcousticCamera", name := "withMic", desc := "(I)LAcousticCamera$State;" } : Jvm.MethodName)) ∈ lw_all := lw_g (lw_at lw_m7 217 rfl) rfl
theorem q1794 : (Jvm.Cond.privateMethod ({ cls := "AcousticCamera", name := "withMic", desc := "(I)LAcousticCamera$State;" } : Jvm.MethodName)) ∈ lw_tbl := lw_at lw_m7 218 rfl
theorem q1795 : (Jvm.Cond.instanceMethod ({ cls := "AcousticCamera", name := "withMic", desc := "(I)LAcousticCamera$State;" } : Jvm.MethodName)) ∈ lw_all := lw_g (lw_at lw_m7 219 rfl) rfl
theorem q1796 : (Jvm.Cond.code ({ cls := "AcousticCamera", name := "withMic", desc := "(I)LAcousticCamera$State;" } : Jvm.MethodName) prog_1_method_11_code (2 : Nat) (Option.some (Jvm.ClassFile.FieldType.object "AcousticCamera$State"))) ∈ lw_all := lw_g (lw_at lw_m7 220 rfl) rfl
theorem q1797 : (Jvm.Cond.methodLink "AcousticCamera" (103 : Nat) ({ cls := "AcousticCamera", name := "there", desc := "()LAcousticCamera$State;" } : Jvm.MethodName)) ∈ lw_all := lw_g (lw_at lw_m7 221 rfl) rfl
theorem q1798 : (Jvm.Cond.privateMethod ({ cls := "AcousticCamera", name := "there", desc := "()LAcousticCamera$State;" } : Jvm.MethodName)) ∈ lw_tbl := lw_at lw_m7 222 rfl
theorem q1799 : (Jvm.Cond.instanceMethod ({ cls := "AcousticCamera", name := "there", desc := "()LAcousticCamera$State;" } : Jvm.MethodName)) ∈ lw_all := lw_g (lw_at lw_m7 223 rfl) rfl
theorem q1800 : (Jvm.Cond.code ({ cls := "AcousticCamera", name := "there", desc := "()LAcousticCamera$State;" } : Jvm.MethodName) prog_1_method_10_code (1 : Nat) (Option.some (Jvm.ClassFile.FieldType.object "AcousticCamera$State"))) ∈ lw_all := lw_g (lw_at lw_m7 224 rfl) rfl
theorem q1801 : (Jvm.Cond.methodLink "AcousticCamera" (99 : Nat) ({ cls := "AcousticCamera", name := "checkState", desc := "(Z)V" } : Jvm.MethodName)) ∈ lw_all := lw_g (lw_at lw_m7 225 rfl) rfl
theorem q1802 : (Jvm.Cond.static ({ cls := "AcousticCamera", name := "checkState", desc := "(Z)V" } : Jvm.MethodName)) ∈ lw_all := lw_g (lw_at lw_m7 226 rfl) rfl
theorem q1803 : (Jvm.Cond.code ({ cls := "AcousticCamera", name := "checkState", desc := "(Z)V" } : Jvm.MethodName) prog_1_method_9_code (1 : Nat) (Option.none : Option Jvm.ClassFile.FieldType)) ∈ lw_all := lw_g (lw_at lw_m7 227 rfl) rfl
theorem q1804 : (Jvm.Cond.classLink "AcousticCamera" (92 : Nat) "java/lang/IllegalStateException") ∈ lw_all := lw_g (lw_at lw_m7 228 rfl) rfl
theorem q1813 : (Jvm.Cond.methodLink "AcousticCamera" (94 : Nat) ({ cls := "java/lang/IllegalStateException", name := "<init>", desc := "()V" } : Jvm.MethodName)) ∈ lw_all := lw_g (lw_at lw_m7 237 rfl) rfl
theorem q1819 : (Jvm.Cond.constantLong "AcousticCamera" (183 : Nat) (3 : Int64)) ∈ lw_all := lw_g (lw_at lw_m8 3 rfl) rfl
theorem q1820 : (Jvm.Cond.methodLink "AcousticCamera" (185 : Nat) ({ cls := "AcousticCamera", name := "checkArgument", desc := "(Z)V" } : Jvm.MethodName)) ∈ lw_all := lw_g (lw_at lw_m8 4 rfl) rfl
theorem q1821 : (Jvm.Cond.static ({ cls := "AcousticCamera", name := "checkArgument", desc := "(Z)V" } : Jvm.MethodName)) ∈ lw_all := lw_g (lw_at lw_m8 5 rfl) rfl
theorem q1822 : (Jvm.Cond.code ({ cls := "AcousticCamera", name := "checkArgument", desc := "(Z)V" } : Jvm.MethodName) prog_1_method_7_code (1 : Nat) (Option.none : Option Jvm.ClassFile.FieldType)) ∈ lw_all := lw_g (lw_at lw_m8 6 rfl) rfl
theorem q1823 : (Jvm.Cond.interfaceEntry "AcousticCamera" (188 : Nat)) ∈ lw_tbl := lw_at lw_m8 7 rfl
theorem q1824 : (Jvm.Cond.methodLink "AcousticCamera" (188 : Nat) ({ cls := "java/util/List", name := "get", desc := "(I)Ljava/lang/Object;" } : Jvm.MethodName)) ∈ lw_all := lw_g (lw_at lw_m8 8 rfl) rfl
theorem q1825 : (Jvm.Cond.classLink "AcousticCamera" (192 : Nat) "AcousticCamera$Mic") ∈ lw_all := lw_g (lw_at lw_m8 9 rfl) rfl
theorem q1830 : (Jvm.Cond.instanceMethod ({ cls := "AcousticCamera", name := "isMuted", desc := "(I)Z" } : Jvm.MethodName)) ∈ lw_all := lw_g (lw_at lw_m8 14 rfl) rfl
theorem q1831 : (Jvm.Cond.selects "AcousticCamera" ({ cls := "AcousticCamera", name := "isMuted", desc := "(I)Z" } : Jvm.MethodName) ({ cls := "AcousticCamera", name := "isMuted", desc := "(I)Z" } : Jvm.MethodName)) ∈ lw_all := lw_g (lw_at lw_m8 15 rfl) rfl
theorem q1832 : (Jvm.Cond.code ({ cls := "AcousticCamera", name := "isMuted", desc := "(I)Z" } : Jvm.MethodName) prog_1_method_26_code (2 : Nat) (Option.some Jvm.ClassFile.FieldType.boolean)) ∈ lw_all := lw_g (lw_at lw_m8 16 rfl) rfl
theorem q1833 : (Jvm.Cond.methodLink "AcousticCamera" (207 : Nat) ({ cls := "AcousticCamera$State", name := "isActive", desc := "(I)Z" } : Jvm.MethodName)) ∈ lw_all := lw_g (lw_at lw_m8 17 rfl) rfl
theorem q1842 : (Jvm.Cond.instanceMethod ({ cls := "AcousticCamera", name := "cellAt", desc := "(II)I" } : Jvm.MethodName)) ∈ lw_all := lw_g (lw_at lw_m8 26 rfl) rfl
theorem q1843 : (Jvm.Cond.selects "AcousticCamera" ({ cls := "AcousticCamera", name := "cellAt", desc := "(II)I" } : Jvm.MethodName) ({ cls := "AcousticCamera", name := "cellAt", desc := "(II)I" } : Jvm.MethodName)) ∈ lw_all := lw_g (lw_at lw_m8 27 rfl) rfl
theorem q1844 : (Jvm.Cond.code ({ cls := "AcousticCamera", name := "cellAt", desc := "(II)I" } : Jvm.MethodName) prog_1_method_29_code (3 : Nat) (Option.some Jvm.ClassFile.FieldType.int)) ∈ lw_all := lw_g (lw_at lw_m8 28 rfl) rfl
theorem q1845 : (Jvm.Cond.methodLink "AcousticCamera" (137 : Nat) ({ cls := "AcousticCamera", name := "withCell", desc := "(I)LAcousticCamera$State;" } : Jvm.MethodName)) ∈ lw_all := lw_g (lw_at lw_m8 29 rfl) rfl
theorem q1846 : (Jvm.Cond.privateMethod ({ cls := "AcousticCamera", name := "withCell", desc := "(I)LAcousticCamera$State;" } : Jvm.MethodName)) ∈ lw_tbl := lw_at lw_m8 30 rfl
theorem q1847 : (Jvm.Cond.instanceMethod ({ cls := "AcousticCamera", name := "withCell", desc := "(I)LAcousticCamera$State;" } : Jvm.MethodName)) ∈ lw_all := lw_g (lw_at lw_m8 31 rfl) rfl
theorem q1848 : (Jvm.Cond.code ({ cls := "AcousticCamera", name := "withCell", desc := "(I)LAcousticCamera$State;" } : Jvm.MethodName) prog_1_method_12_code (2 : Nat) (Option.some (Jvm.ClassFile.FieldType.object "AcousticCamera$State"))) ∈ lw_all := lw_g (lw_at lw_m8 32 rfl) rfl
theorem q1849 : (Jvm.Cond.methodLink "AcousticCamera" (216 : Nat) ({ cls := "AcousticCamera$Setup", name := "xOf", desc := "(I)I" } : Jvm.MethodName)) ∈ lw_all := lw_g (lw_at lw_m8 33 rfl) rfl
theorem q1850 : (Jvm.Cond.methodLink "AcousticCamera" (220 : Nat) ({ cls := "AcousticCamera$Setup", name := "yOf", desc := "(I)I" } : Jvm.MethodName)) ∈ lw_all := lw_g (lw_at lw_m8 34 rfl) rfl
theorem q1855 : (Jvm.Cond.instanceMethod ({ cls := "AcousticCamera", name := "sourceAt", desc := "(III)I" } : Jvm.MethodName)) ∈ lw_all := lw_g (lw_at lw_m8 39 rfl) rfl
theorem q1856 : (Jvm.Cond.selects "AcousticCamera" ({ cls := "AcousticCamera", name := "sourceAt", desc := "(III)I" } : Jvm.MethodName) ({ cls := "AcousticCamera", name := "sourceAt", desc := "(III)I" } : Jvm.MethodName)) ∈ lw_all := lw_g (lw_at lw_m8 40 rfl) rfl
theorem q1857 : (Jvm.Cond.code ({ cls := "AcousticCamera", name := "sourceAt", desc := "(III)I" } : Jvm.MethodName) prog_1_method_31_code (4 : Nat) (Option.some Jvm.ClassFile.FieldType.int)) ∈ lw_all := lw_g (lw_at lw_m8 41 rfl) rfl
theorem q1858 : (Jvm.Cond.methodLink "AcousticCamera" (223 : Nat) ({ cls := "AcousticCamera", name := "withSource", desc := "(I)LAcousticCamera$State;" } : Jvm.MethodName)) ∈ lw_all := lw_g (lw_at lw_m8 42 rfl) rfl
theorem q1859 : (Jvm.Cond.privateMethod ({ cls := "AcousticCamera", name := "withSource", desc := "(I)LAcousticCamera$State;" } : Jvm.MethodName)) ∈ lw_tbl := lw_at lw_m8 43 rfl
theorem q1860 : (Jvm.Cond.instanceMethod ({ cls := "AcousticCamera", name := "withSource", desc := "(I)LAcousticCamera$State;" } : Jvm.MethodName)) ∈ lw_all := lw_g (lw_at lw_m8 44 rfl) rfl
theorem q1861 : (Jvm.Cond.code ({ cls := "AcousticCamera", name := "withSource", desc := "(I)LAcousticCamera$State;" } : Jvm.MethodName) prog_1_method_13_code (2 : Nat) (Option.some (Jvm.ClassFile.FieldType.object "AcousticCamera$State"))) ∈ lw_all := lw_g (lw_at lw_m8 45 rfl) rfl
theorem q1862 : (Jvm.Cond.methodLink "AcousticCamera" (226 : Nat) ({ cls := "AcousticCamera", name := "isSample", desc := "(I)Z" } : Jvm.MethodName)) ∈ lw_all := lw_g (lw_at lw_m8 46 rfl) rfl
theorem q1863 : (Jvm.Cond.privateMethod ({ cls := "AcousticCamera", name := "isSample", desc := "(I)Z" } : Jvm.MethodName)) ∈ lw_tbl := lw_at lw_m8 47 rfl
theorem q1864 : (Jvm.Cond.instanceMethod ({ cls := "AcousticCamera", name := "isSample", desc := "(I)Z" } : Jvm.MethodName)) ∈ lw_all := lw_g (lw_at lw_m8 48 rfl) rfl
theorem q1865 : (Jvm.Cond.code ({ cls := "AcousticCamera", name := "isSample", desc := "(I)Z" } : Jvm.MethodName) prog_1_method_16_code (2 : Nat) (Option.some Jvm.ClassFile.FieldType.boolean)) ∈ lw_all := lw_g (lw_at lw_m8 49 rfl) rfl
theorem q1866 : (Jvm.Cond.methodLink "AcousticCamera" (229 : Nat) ({ cls := "AcousticCamera$Source", name := "xAt", desc := "(I)I" } : Jvm.MethodName)) ∈ lw_all := lw_g (lw_at lw_m8 50 rfl) rfl
theorem q1867 : (Jvm.Cond.methodLink "AcousticCamera" (234 : Nat) ({ cls := "AcousticCamera$Source", name := "yAt", desc := "(I)I" } : Jvm.MethodName)) ∈ lw_all := lw_g (lw_at lw_m8 51 rfl) rfl
theorem q1872 : (Jvm.Cond.instanceMethod ({ cls := "AcousticCamera", name := "isOn", desc := "(I)Z" } : Jvm.MethodName)) ∈ lw_all := lw_g (lw_at lw_m8 56 rfl) rfl
theorem q1873 : (Jvm.Cond.selects "AcousticCamera" ({ cls := "AcousticCamera", name := "isOn", desc := "(I)Z" } : Jvm.MethodName) ({ cls := "AcousticCamera", name := "isOn", desc := "(I)Z" } : Jvm.MethodName)) ∈ lw_all := lw_g (lw_at lw_m8 57 rfl) rfl
theorem q1874 : (Jvm.Cond.code ({ cls := "AcousticCamera", name := "isOn", desc := "(I)Z" } : Jvm.MethodName) prog_1_method_32_code (2 : Nat) (Option.some Jvm.ClassFile.FieldType.boolean)) ∈ lw_all := lw_g (lw_at lw_m8 58 rfl) rfl
theorem q1875 : (Jvm.Cond.methodLink "AcousticCamera" (241 : Nat) ({ cls := "java/util/BitSet", name := "get", desc := "(I)Z" } : Jvm.MethodName)) ∈ lw_all := lw_g (lw_at lw_m8 59 rfl) rfl
theorem q1880 : (Jvm.Cond.instanceMethod ({ cls := "AcousticCamera", name := "waveAt", desc := "(II)I" } : Jvm.MethodName)) ∈ lw_all := lw_g (lw_at lw_m8 64 rfl) rfl
theorem q1881 : (Jvm.Cond.selects "AcousticCamera" ({ cls := "AcousticCamera", name := "waveAt", desc := "(II)I" } : Jvm.MethodName) ({ cls := "AcousticCamera", name := "waveAt", desc := "(II)I" } : Jvm.MethodName)) ∈ lw_all := lw_g (lw_at lw_m8 65 rfl) rfl
theorem q1882 : (Jvm.Cond.code ({ cls := "AcousticCamera", name := "waveAt", desc := "(II)I" } : Jvm.MethodName) prog_1_method_33_code (3 : Nat) (Option.some Jvm.ClassFile.FieldType.int)) ∈ lw_all := lw_g (lw_at lw_m8 66 rfl) rfl
theorem q1883 : (Jvm.Cond.methodLink "AcousticCamera" (245 : Nat) ({ cls := "AcousticCamera$Source", name := "at", desc := "(I)I" } : Jvm.MethodName)) ∈ lw_all := lw_g (lw_at lw_m8 67 rfl) rfl
theorem q1888 : (Jvm.Cond.instanceMethod ({ cls := "AcousticCamera", name := "delay", desc := "(II)I" } : Jvm.MethodName)) ∈ lw_all := lw_g (lw_at lw_m8 72 rfl) rfl
theorem q1889 : (Jvm.Cond.selects "AcousticCamera" ({ cls := "AcousticCamera", name := "delay", desc := "(II)I" } : Jvm.MethodName) ({ cls := "AcousticCamera", name := "delay", desc := "(II)I" } : Jvm.MethodName)) ∈ lw_all := lw_g (lw_at lw_m8 73 rfl) rfl
theorem q1890 : (Jvm.Cond.code ({ cls := "AcousticCamera", name := "delay", desc := "(II)I" } : Jvm.MethodName) prog_1_method_35_code (3 : Nat) (Option.some Jvm.ClassFile.FieldType.int)) ∈ lw_all := lw_g (lw_at lw_m8 74 rfl) rfl
theorem q1895 : (Jvm.Cond.instanceMethod ({ cls := "AcousticCamera", name := "delayTo", desc := "(III)I" } : Jvm.MethodName)) ∈ lw_all := lw_g (lw_at lw_m8 79 rfl) rfl
theorem q1896 : (Jvm.Cond.selects "AcousticCamera" ({ cls := "AcousticCamera", name := "delayTo", desc := "(III)I" } : Jvm.MethodName) ({ cls := "AcousticCamera", name := "delayTo", desc := "(III)I" } : Jvm.MethodName)) ∈ lw_all := lw_g (lw_at lw_m8 80 rfl) rfl
theorem q1897 : (Jvm.Cond.code ({ cls := "AcousticCamera", name := "delayTo", desc := "(III)I" } : Jvm.MethodName) prog_1_method_36_code (4 : Nat) (Option.some Jvm.ClassFile.FieldType.int)) ∈ lw_all := lw_g (lw_at lw_m8 81 rfl) rfl
theorem q1898 : (Jvm.Cond.methodLink "AcousticCamera" (252 : Nat) ({ cls := "AcousticCamera", name := "isPoint", desc := "(II)Z" } : Jvm.MethodName)) ∈ lw_all := lw_g (lw_at lw_m8 82 rfl) rfl
theorem q1899 : (Jvm.Cond.static ({ cls := "AcousticCamera", name := "isPoint", desc := "(II)Z" } : Jvm.MethodName)) ∈ lw_all := lw_g (lw_at lw_m8 83 rfl) rfl
theorem q1900 : (Jvm.Cond.code ({ cls := "AcousticCamera", name := "isPoint", desc := "(II)Z" } : Jvm.MethodName) prog_1_method_17_code (2 : Nat) (Option.some Jvm.ClassFile.FieldType.boolean)) ∈ lw_all := lw_g (lw_at lw_m8 84 rfl) rfl
theorem q1901 : (Jvm.Cond.constantLong "AcousticCamera" (143 : Nat) (-9999 : Int64)) ∈ lw_all := lw_g (lw_at lw_m8 85 rfl) rfl
theorem q1902 : (Jvm.Cond.constantLong "AcousticCamera" (145 : Nat) (9999 : Int64)) ∈ lw_all := lw_g (lw_at lw_m8 86 rfl) rfl
theorem q1903 : (Jvm.Cond.methodLink "AcousticCamera" (256 : Nat) ({ cls := "AcousticCamera$Setup", name := "delay", desc := "(III)I" } : Jvm.MethodName)) ∈ lw_all := lw_g (lw_at lw_m8 87 rfl) rfl
theorem q1908 : (Jvm.Cond.instanceMethod ({ cls := "AcousticCamera", name := "spread", desc := "(I)I" } : Jvm.MethodName)) ∈ lw_all := lw_g (lw_at lw_m8 92 rfl) rfl
theorem q1909 : (Jvm.Cond.selects "AcousticCamera" ({ cls := "AcousticCamera", name := "spread", desc := "(I)I" } : Jvm.MethodName) ({ cls := "AcousticCamera", name := "spread", desc := "(I)I" } : Jvm.MethodName)) ∈ lw_all := lw_g (lw_at lw_m8 93 rfl) rfl
theorem q1910 : (Jvm.Cond.code ({ cls := "AcousticCamera", name := "spread", desc := "(I)I" } : Jvm.MethodName) prog_1_method_37_code (2 : Nat) (Option.some Jvm.ClassFile.FieldType.int)) ∈ lw_all := lw_g (lw_at lw_m8 94 rfl) rfl
theorem q1911 : (Jvm.Cond.methodLink "AcousticCamera" (260 : Nat) ({ cls := "AcousticCamera$State", name := "spread", desc := "(I)I" } : Jvm.MethodName)) ∈ lw_all := lw_g (lw_at lw_m8 95 rfl) rfl
theorem q1924 : (Jvm.Cond.instanceMethod ({ cls := "AcousticCamera", name := "window", desc := "(I)I" } : Jvm.MethodName)) ∈ lw_all := lw_g (lw_at lw_m8 108 rfl) rfl
theorem q1925 : (Jvm.Cond.selects "AcousticCamera" ({ cls := "AcousticCamera", name := "window", desc := "(I)I" } : Jvm.MethodName) ({ cls := "AcousticCamera", name := "window", desc := "(I)I" } : Jvm.MethodName)) ∈ lw_all := lw_g (lw_at lw_m8 109 rfl) rfl
theorem q1926 : (Jvm.Cond.code ({ cls := "AcousticCamera", name := "window", desc := "(I)I" } : Jvm.MethodName) prog_1_method_38_code (2 : Nat) (Option.some Jvm.ClassFile.FieldType.int)) ∈ lw_all := lw_g (lw_at lw_m8 110 rfl) rfl
theorem q1927 : (Jvm.Cond.methodLink "AcousticCamera" (263 : Nat) ({ cls := "AcousticCamera$State", name := "window", desc := "(I)I" } : Jvm.MethodName)) ∈ lw_all := lw_g (lw_at lw_m8 111 rfl) rfl
theorem q1935 : (Jvm.Cond.instanceMethod ({ cls := "AcousticCamera", name := "sample", desc := "(II)I" } : Jvm.MethodName)) ∈ lw_all := lw_g (lw_at lw_m8 119 rfl) rfl
theorem q1936 : (Jvm.Cond.selects "AcousticCamera" ({ cls := "AcousticCamera", name := "sample", desc := "(II)I" } : Jvm.MethodName) ({ cls := "AcousticCamera", name := "sample", desc := "(II)I" } : Jvm.MethodName)) ∈ lw_all := lw_g (lw_at lw_m8 120 rfl) rfl
theorem q1937 : (Jvm.Cond.code ({ cls := "AcousticCamera", name := "sample", desc := "(II)I" } : Jvm.MethodName) prog_1_method_39_code (3 : Nat) (Option.some Jvm.ClassFile.FieldType.int)) ∈ lw_all := lw_g (lw_at lw_m8 121 rfl) rfl
theorem q1942 : (Jvm.Cond.instanceMethod ({ cls := "AcousticCamera", name := "beam", desc := "(II)I" } : Jvm.MethodName)) ∈ lw_all := lw_g (lw_at lw_m8 126 rfl) rfl
theorem q1943 : (Jvm.Cond.selects "AcousticCamera" ({ cls := "AcousticCamera", name := "beam", desc := "(II)I" } : Jvm.MethodName) ({ cls := "AcousticCamera", name := "beam", desc := "(II)I" } : Jvm.MethodName)) ∈ lw_all := lw_g (lw_at lw_m8 127 rfl) rfl
theorem q1944 : (Jvm.Cond.code ({ cls := "AcousticCamera", name := "beam", desc := "(II)I" } : Jvm.MethodName) prog_1_method_40_code (3 : Nat) (Option.some Jvm.ClassFile.FieldType.int)) ∈ lw_all := lw_g (lw_at lw_m8 128 rfl) rfl
theorem q1945 : (Jvm.Cond.methodLink "AcousticCamera" (269 : Nat) ({ cls := "AcousticCamera$State", name := "beam", desc := "(II)I" } : Jvm.MethodName)) ∈ lw_all := lw_g (lw_at lw_m8 129 rfl) rfl
theorem q1953 : (Jvm.Cond.instanceMethod ({ cls := "AcousticCamera", name := "power", desc := "(I)J" } : Jvm.MethodName)) ∈ lw_all := lw_g (lw_at lw_m8 137 rfl) rfl
theorem q1954 : (Jvm.Cond.selects "AcousticCamera" ({ cls := "AcousticCamera", name := "power", desc := "(I)J" } : Jvm.MethodName) ({ cls := "AcousticCamera", name := "power", desc := "(I)J" } : Jvm.MethodName)) ∈ lw_all := lw_g (lw_at lw_m8 138 rfl) rfl
theorem q1955 : (Jvm.Cond.code ({ cls := "AcousticCamera", name := "power", desc := "(I)J" } : Jvm.MethodName) prog_1_method_41_code (2 : Nat) (Option.some Jvm.ClassFile.FieldType.long)) ∈ lw_all := lw_g (lw_at lw_m8 139 rfl) rfl
theorem q1956 : (Jvm.Cond.methodLink "AcousticCamera" (273 : Nat) ({ cls := "AcousticCamera$State", name := "powers", desc := "()[J" } : Jvm.MethodName)) ∈ lw_all := lw_g (lw_at lw_m8 140 rfl) rfl
theorem q1975 : (Jvm.Cond.instanceMethod ({ cls := "AcousticCamera", name := "powerAt", desc := "(II)J" } : Jvm.MethodName)) ∈ lw_all := lw_g (lw_at lw_m8 159 rfl) rfl
theorem q1976 : (Jvm.Cond.selects "AcousticCamera" ({ cls := "AcousticCamera", name := "powerAt", desc := "(II)J" } : Jvm.MethodName) ({ cls := "AcousticCamera", name := "powerAt", desc := "(II)J" } : Jvm.MethodName)) ∈ lw_all := lw_g (lw_at lw_m8 160 rfl) rfl
theorem q1977 : (Jvm.Cond.code ({ cls := "AcousticCamera", name := "powerAt", desc := "(II)J" } : Jvm.MethodName) prog_1_method_42_code (3 : Nat) (Option.some Jvm.ClassFile.FieldType.long)) ∈ lw_all := lw_g (lw_at lw_m8 161 rfl) rfl
theorem q1978 : (Jvm.Cond.methodLink "AcousticCamera" (277 : Nat) ({ cls := "AcousticCamera$State", name := "powerAt", desc := "(II)J" } : Jvm.MethodName)) ∈ lw_all := lw_g (lw_at lw_m8 162 rfl) rfl
theorem q1990 : (Jvm.Cond.instanceMethod ({ cls := "AcousticCamera", name := "best", desc := "()I" } : Jvm.MethodName)) ∈ lw_all := lw_g (lw_at lw_m8 174 rfl) rfl
theorem q1991 : (Jvm.Cond.selects "AcousticCamera" ({ cls := "AcousticCamera", name := "best", desc := "()I" } : Jvm.MethodName) ({ cls := "AcousticCamera", name := "best", desc := "()I" } : Jvm.MethodName)) ∈ lw_all := lw_g (lw_at lw_m8 175 rfl) rfl
theorem q1992 : (Jvm.Cond.code ({ cls := "AcousticCamera", name := "best", desc := "()I" } : Jvm.MethodName) prog_1_method_43_code (1 : Nat) (Option.some Jvm.ClassFile.FieldType.int)) ∈ lw_all := lw_g (lw_at lw_m8 176 rfl) rfl
theorem q1993 : (Jvm.Cond.methodLink "AcousticCamera" (281 : Nat) ({ cls := "AcousticCamera$State", name := "best", desc := "()I" } : Jvm.MethodName)) ∈ lw_all := lw_g (lw_at lw_m8 177 rfl) rfl
theorem q2001 : (Jvm.Cond.static ({ cls := "AcousticCamera", name := "best", desc := "(ILAcousticCamera$Score;)I" } : Jvm.MethodName)) ∈ lw_all := lw_g (lw_at lw_m8 185 rfl) rfl
theorem q2002 : (Jvm.Cond.code ({ cls := "AcousticCamera", name := "best", desc := "(ILAcousticCamera$Score;)I" } : Jvm.MethodName) prog_1_method_3_code (8 : Nat) (Option.some Jvm.ClassFile.FieldType.int)) ∈ lw_all := lw_g (lw_at lw_m8 186 rfl) rfl
theorem q2003 : (Jvm.Cond.interfaceEntry "AcousticCamera" (3 : Nat)) ∈ lw_tbl := lw_at lw_m8 187 rfl
theorem q2004 : (Jvm.Cond.methodLink "AcousticCamera" (3 : Nat) ({ cls := "AcousticCamera$Score", name := "of", desc := "(I)J" } : Jvm.MethodName)) ∈ lw_all := lw_g (lw_at lw_m8 188 rfl) rfl
theorem q2011 : (Jvm.Cond.instanceMethod ({ cls := "AcousticCamera", name := "bestPower", desc := "()J" } : Jvm.MethodName)) ∈ lw_all := lw_g (lw_at lw_m8 195 rfl) rfl
theorem q2012 : (Jvm.Cond.selects "AcousticCamera" ({ cls := "AcousticCamera", name := "bestPower", desc := "()J" } : Jvm.MethodName) ({ cls := "AcousticCamera", name := "bestPower", desc := "()J" } : Jvm.MethodName)) ∈ lw_all := lw_g (lw_at lw_m8 196 rfl) rfl
theorem q2013 : (Jvm.Cond.code ({ cls := "AcousticCamera", name := "bestPower", desc := "()J" } : Jvm.MethodName) prog_1_method_44_code (1 : Nat) (Option.some Jvm.ClassFile.FieldType.long)) ∈ lw_all := lw_g (lw_at lw_m8 197 rfl) rfl
theorem q2018 : (Jvm.Cond.instanceMethod ({ cls := "AcousticCamera", name := "meanPower", desc := "()J" } : Jvm.MethodName)) ∈ lw_all := lw_g (lw_at lw_m8 202 rfl) rfl
theorem q2019 : (Jvm.Cond.selects "AcousticCamera" ({ cls := "AcousticCamera", name := "meanPower", desc := "()J" } : Jvm.MethodName) ({ cls := "AcousticCamera", name := "meanPower", desc := "()J" } : Jvm.MethodName)) ∈ lw_all := lw_g (lw_at lw_m8 203 rfl) rfl
theorem q2020 : (Jvm.Cond.code ({ cls := "AcousticCamera", name := "meanPower", desc := "()J" } : Jvm.MethodName) prog_1_method_45_code (8 : Nat) (Option.some Jvm.ClassFile.FieldType.long)) ∈ lw_all := lw_g (lw_at lw_m8 204 rfl) rfl
theorem q2025 : (Jvm.Cond.instanceMethod ({ cls := "AcousticCamera", name := "peaks", desc := "()I" } : Jvm.MethodName)) ∈ lw_all := lw_g (lw_at lw_m8 209 rfl) rfl
theorem q2026 : (Jvm.Cond.selects "AcousticCamera" ({ cls := "AcousticCamera", name := "peaks", desc := "()I" } : Jvm.MethodName) ({ cls := "AcousticCamera", name := "peaks", desc := "()I" } : Jvm.MethodName)) ∈ lw_all := lw_g (lw_at lw_m8 210 rfl) rfl
theorem q2027 : (Jvm.Cond.code ({ cls := "AcousticCamera", name := "peaks", desc := "()I" } : Jvm.MethodName) prog_1_method_46_code (2 : Nat) (Option.some Jvm.ClassFile.FieldType.int)) ∈ lw_all := lw_g (lw_at lw_m8 211 rfl) rfl
theorem q2028 : (Jvm.Cond.static ({ cls := "AcousticCamera", name := "lambda$peaks$0", desc := "(LAcousticCamera$State;I)Z" } : Jvm.MethodName)) ∈ lw_all := lw_g (lw_at lw_m8 212 rfl) rfl
theorem q2029 : (Jvm.Cond.code ({ cls := "AcousticCamera", name := "lambda$peaks$0", desc := "(LAcousticCamera$State;I)Z" } : Jvm.MethodName) prog_1_method_99_code (2 : Nat) (Option.some Jvm.ClassFile.FieldType.boolean)) ∈ lw_all := lw_g (lw_at lw_m8 213 rfl) rfl
theorem q2030 : (Jvm.Cond.methodLink "AcousticCamera" (297 : Nat) ({ cls := "AcousticCamera$State", name := "isPeak", desc := "(I)Z" } : Jvm.MethodName)) ∈ lw_all := lw_g (lw_at lw_m8 214 rfl) rfl
theorem q2034 : (Jvm.Cond.methodLink "AcousticCamera" (287 : Nat) ({ cls := "AcousticCamera", name := "count", desc := "(ILAcousticCamera$Choice;)I" } : Jvm.MethodName)) ∈ lw_all := lw_g (lw_at lw_m8 218 rfl) rfl
theorem q2035 : (Jvm.Cond.static ({ cls := "AcousticCamera", name := "count", desc := "(ILAcousticCamera$Choice;)I" } : Jvm.MethodName)) ∈ lw_all := lw_g (lw_at lw_m8 219 rfl) rfl
theorem q2036 : (Jvm.Cond.code ({ cls := "AcousticCamera", name := "count", desc := "(ILAcousticCamera$Choice;)I" } : Jvm.MethodName) prog_1_method_4_code (4 : Nat) (Option.some Jvm.ClassFile.FieldType.int)) ∈ lw_all := lw_g (lw_at lw_m8 220 rfl) rfl
theorem q2037 : (Jvm.Cond.interfaceEntry "AcousticCamera" (9 : Nat)) ∈ lw_tbl := lw_at lw_m8 221 rfl
theorem q2038 : (Jvm.Cond.methodLink "AcousticCamera" (9 : Nat) ({ cls := "AcousticCamera$Choice", name := "takes", desc := "(I)Z" } : Jvm.MethodName)) ∈ lw_all := lw_g (lw_at lw_m8 222 rfl) rfl
theorem q2045 : (Jvm.Cond.instanceMethod ({ cls := "AcousticCamera", name := "peakAt", desc := "(I)I" } : Jvm.MethodName)) ∈ lw_all := lw_g (lw_at lw_m8 229 rfl) rfl
theorem q2046 : (Jvm.Cond.selects "AcousticCamera" ({ cls := "AcousticCamera", name := "peakAt", desc := "(I)I" } : Jvm.MethodName) ({ cls := "AcousticCamera", name := "peakAt", desc := "(I)I" } : Jvm.MethodName)) ∈ lw_all := lw_g (lw_at lw_m8 230 rfl) rfl
theorem q2047 : (Jvm.Cond.code ({ cls := "AcousticCamera", name := "peakAt", desc := "(I)I" } : Jvm.MethodName) prog_1_method_47_code (3 : Nat) (Option.some Jvm.ClassFile.FieldType.int)) ∈ lw_all := lw_g (lw_at lw_m8 231 rfl) rfl
theorem q2048 : (Jvm.Cond.methodLink "AcousticCamera" (291 : Nat) ({ cls := "AcousticCamera$State", name := "peaks", desc := "()Ljava/util/LinkedList;" } : Jvm.MethodName)) ∈ lw_all := lw_g (lw_at lw_m8 232 rfl) rfl
theorem q2059 : (Jvm.Cond.static ({ cls := "AcousticCamera", name := "ranking", desc := "(ILAcousticCamera$Choice;LAcousticCamera$Score;)Ljava/util/LinkedList;" } : Jvm.MethodName)) ∈ lw_all := lw_g (lw_at lw_m9 3 rfl) rfl
theorem q2060 : (Jvm.Cond.code ({ cls := "AcousticCamera", name := "ranking", desc := "(ILAcousticCamera$Choice;LAcousticCamera$Score;)Ljava/util/LinkedList;" } : Jvm.MethodName) prog_1_method_5_code (8 : Nat) (Option.some (Jvm.ClassFile.FieldType.object "java/util/LinkedList"))) ∈ lw_all := lw_g (lw_at lw_m9 4 rfl) rfl
theorem q2061 : (Jvm.Cond.classLink "AcousticCamera" (15 : Nat) "java/util/LinkedList") ∈ lw_all := lw_g (lw_at lw_m9 5 rfl) rfl
theorem q2062 : (Jvm.Cond.methodLink "AcousticCamera" (17 : Nat) ({ cls := "java/util/LinkedList", name := "<init>", desc := "()V" } : Jvm.MethodName)) ∈ lw_all := lw_g (lw_at lw_m9 6 rfl) rfl
theorem q2081 : (Jvm.Cond.methodLink "AcousticCamera" (21 : Nat) ({ cls := "java/util/LinkedList", name := "iterator", desc := "()Ljava/util/Iterator;" } : Jvm.MethodName)) ∈ lw_all := lw_g (lw_at lw_m9 25 rfl) rfl
theorem q2173 : (Jvm.Cond.interfaceEntry "AcousticCamera" (25 : Nat)) ∈ lw_tbl := lw_at lw_m9 117 rfl
theorem q2174 : (Jvm.Cond.methodLink "AcousticCamera" (25 : Nat) ({ cls := "java/util/Iterator", name := "hasNext", desc := "()Z" } : Jvm.MethodName)) ∈ lw_all := lw_g (lw_at lw_m9 118 rfl) rfl
theorem q2199 : (Jvm.Cond.interfaceEntry "AcousticCamera" (31 : Nat)) ∈ lw_tbl := lw_at lw_m9 143 rfl
theorem q2200 : (Jvm.Cond.methodLink "AcousticCamera" (31 : Nat) ({ cls := "java/util/Iterator", name := "next", desc := "()Ljava/lang/Object;" } : Jvm.MethodName)) ∈ lw_all := lw_g (lw_at lw_m9 144 rfl) rfl
theorem q2300 : (Jvm.Cond.classLink "AcousticCamera" (35 : Nat) "java/lang/Integer") ∈ lw_all := lw_g (lw_at lw_m10 4 rfl) rfl
theorem q2301 : (Jvm.Cond.methodLink "AcousticCamera" (37 : Nat) ({ cls := "java/lang/Integer", name := "intValue", desc := "()I" } : Jvm.MethodName)) ∈ lw_all := lw_g (lw_at lw_m10 5 rfl) rfl
theorem q2302 : (Jvm.Cond.methodLink "AcousticCamera" (41 : Nat) ({ cls := "java/lang/Integer", name := "valueOf", desc := "(I)Ljava/lang/Integer;" } : Jvm.MethodName)) ∈ lw_all := lw_g (lw_at lw_m10 6 rfl) rfl
theorem q2321 : (Jvm.Cond.methodLink "AcousticCamera" (45 : Nat) ({ cls := "java/util/LinkedList", name := "add", desc := "(ILjava/lang/Object;)V" } : Jvm.MethodName)) ∈ lw_all := lw_g (lw_at lw_m10 25 rfl) rfl
theorem q2329 : (Jvm.Cond.methodLink "AcousticCamera" (295 : Nat) ({ cls := "java/util/LinkedList", name := "size", desc := "()I" } : Jvm.MethodName)) ∈ lw_all := lw_g (lw_at lw_m10 33 rfl) rfl
theorem q2330 : (Jvm.Cond.methodLink "AcousticCamera" (296 : Nat) ({ cls := "java/util/LinkedList", name := "get", desc := "(I)Ljava/lang/Object;" } : Jvm.MethodName)) ∈ lw_all := lw_g (lw_at lw_m10 34 rfl) rfl
theorem q2335 : (Jvm.Cond.instanceMethod ({ cls := "AcousticCamera", name := "isPeak", desc := "(I)Z" } : Jvm.MethodName)) ∈ lw_all := lw_g (lw_at lw_m10 39 rfl) rfl
theorem q2336 : (Jvm.Cond.selects "AcousticCamera" ({ cls := "AcousticCamera", name := "isPeak", desc := "(I)Z" } : Jvm.MethodName) ({ cls := "AcousticCamera", name := "isPeak", desc := "(I)Z" } : Jvm.MethodName)) ∈ lw_all := lw_g (lw_at lw_m10 40 rfl) rfl
theorem q2337 : (Jvm.Cond.code ({ cls := "AcousticCamera", name := "isPeak", desc := "(I)Z" } : Jvm.MethodName) prog_1_method_48_code (2 : Nat) (Option.some Jvm.ClassFile.FieldType.boolean)) ∈ lw_all := lw_g (lw_at lw_m10 41 rfl) rfl
theorem q2342 : (Jvm.Cond.instanceMethod ({ cls := "AcousticCamera", name := "zonePower", desc := "(I)J" } : Jvm.MethodName)) ∈ lw_all := lw_g (lw_at lw_m10 46 rfl) rfl
theorem q2343 : (Jvm.Cond.selects "AcousticCamera" ({ cls := "AcousticCamera", name := "zonePower", desc := "(I)J" } : Jvm.MethodName) ({ cls := "AcousticCamera", name := "zonePower", desc := "(I)J" } : Jvm.MethodName)) ∈ lw_all := lw_g (lw_at lw_m10 47 rfl) rfl
theorem q2344 : (Jvm.Cond.code ({ cls := "AcousticCamera", name := "zonePower", desc := "(I)J" } : Jvm.MethodName) prog_1_method_50_code (6 : Nat) (Option.some Jvm.ClassFile.FieldType.long)) ∈ lw_all := lw_g (lw_at lw_m10 48 rfl) rfl
theorem q2345 : (Jvm.Cond.methodLink "AcousticCamera" (303 : Nat) ({ cls := "AcousticCamera", name := "withZone", desc := "(I)LAcousticCamera$State;" } : Jvm.MethodName)) ∈ lw_all := lw_g (lw_at lw_m10 49 rfl) rfl
theorem q2346 : (Jvm.Cond.privateMethod ({ cls := "AcousticCamera", name := "withZone", desc := "(I)LAcousticCamera$State;" } : Jvm.MethodName)) ∈ lw_tbl := lw_at lw_m10 50 rfl
theorem q2347 : (Jvm.Cond.instanceMethod ({ cls := "AcousticCamera", name := "withZone", desc := "(I)LAcousticCamera$State;" } : Jvm.MethodName)) ∈ lw_all := lw_g (lw_at lw_m10 51 rfl) rfl
theorem q2348 : (Jvm.Cond.code ({ cls := "AcousticCamera", name := "withZone", desc := "(I)LAcousticCamera$State;" } : Jvm.MethodName) prog_1_method_49_code (2 : Nat) (Option.some (Jvm.ClassFile.FieldType.object "AcousticCamera$State"))) ∈ lw_all := lw_g (lw_at lw_m10 52 rfl) rfl
theorem q2349 : (Jvm.Cond.methodLink "AcousticCamera" (306 : Nat) ({ cls := "AcousticCamera$State", name := "isInZone", desc := "(II)Z" } : Jvm.MethodName)) ∈ lw_all := lw_g (lw_at lw_m10 53 rfl) rfl
theorem q2363 : (Jvm.Cond.instanceMethod ({ cls := "AcousticCamera", name := "zoneBest", desc := "(I)I" } : Jvm.MethodName)) ∈ lw_all := lw_g (lw_at lw_m10 67 rfl) rfl
theorem q2364 : (Jvm.Cond.selects "AcousticCamera" ({ cls := "AcousticCamera", name := "zoneBest", desc := "(I)I" } : Jvm.MethodName) ({ cls := "AcousticCamera", name := "zoneBest", desc := "(I)I" } : Jvm.MethodName)) ∈ lw_all := lw_g (lw_at lw_m10 68 rfl) rfl
theorem q2365 : (Jvm.Cond.code ({ cls := "AcousticCamera", name := "zoneBest", desc := "(I)I" } : Jvm.MethodName) prog_1_method_51_code (4 : Nat) (Option.some Jvm.ClassFile.FieldType.int)) ∈ lw_all := lw_g (lw_at lw_m10 69 rfl) rfl
theorem q2366 : (Jvm.Cond.static ({ cls := "AcousticCamera", name := "lambda$zoneBest$1", desc := "(LAcousticCamera$State;I[JI)J" } : Jvm.MethodName)) ∈ lw_all := lw_g (lw_at lw_m10 70 rfl) rfl
theorem q2367 : (Jvm.Cond.code ({ cls := "AcousticCamera", name := "lambda$zoneBest$1", desc := "(LAcousticCamera$State;I[JI)J" } : Jvm.MethodName) prog_1_method_98_code (4 : Nat) (Option.some Jvm.ClassFile.FieldType.long)) ∈ lw_all := lw_g (lw_at lw_m10 71 rfl) rfl
theorem q2368 : (Jvm.Cond.constantLong "AcousticCamera" (505 : Nat) (-1 : Int64)) ∈ lw_all := lw_g (lw_at lw_m10 72 rfl) rfl
theorem q2369 : (Jvm.Cond.methodLink "AcousticCamera" (312 : Nat) ({ cls := "AcousticCamera", name := "best", desc := "(ILAcousticCamera$Score;)I" } : Jvm.MethodName)) ∈ lw_all := lw_g (lw_at lw_m10 73 rfl) rfl
theorem q2374 : (Jvm.Cond.instanceMethod ({ cls := "AcousticCamera", name := "contrast", desc := "()F" } : Jvm.MethodName)) ∈ lw_all := lw_g (lw_at lw_m10 78 rfl) rfl
theorem q2375 : (Jvm.Cond.selects "AcousticCamera" ({ cls := "AcousticCamera", name := "contrast", desc := "()F" } : Jvm.MethodName) ({ cls := "AcousticCamera", name := "contrast", desc := "()F" } : Jvm.MethodName)) ∈ lw_all := lw_g (lw_at lw_m10 79 rfl) rfl
theorem q2376 : (Jvm.Cond.code ({ cls := "AcousticCamera", name := "contrast", desc := "()F" } : Jvm.MethodName) prog_1_method_52_code (4 : Nat) (Option.some Jvm.ClassFile.FieldType.float)) ∈ lw_all := lw_g (lw_at lw_m10 80 rfl) rfl
theorem q2377 : (Jvm.Cond.static ({ cls := "AcousticCamera", name := "lambda$contrast$2", desc := "(I[JI)J" } : Jvm.MethodName)) ∈ lw_all := lw_g (lw_at lw_m10 81 rfl) rfl
theorem q2378 : (Jvm.Cond.code ({ cls := "AcousticCamera", name := "lambda$contrast$2", desc := "(I[JI)J" } : Jvm.MethodName) prog_1_method_97_code (3 : Nat) (Option.some Jvm.ClassFile.FieldType.long)) ∈ lw_all := lw_g (lw_at lw_m10 82 rfl) rfl
theorem q2383 : (Jvm.Cond.instanceMethod ({ cls := "AcousticCamera", name := "alias", desc := "(III)I" } : Jvm.MethodName)) ∈ lw_all := lw_g (lw_at lw_m10 87 rfl) rfl
theorem q2384 : (Jvm.Cond.selects "AcousticCamera" ({ cls := "AcousticCamera", name := "alias", desc := "(III)I" } : Jvm.MethodName) ({ cls := "AcousticCamera", name := "alias", desc := "(III)I" } : Jvm.MethodName)) ∈ lw_all := lw_g (lw_at lw_m10 88 rfl) rfl
theorem q2385 : (Jvm.Cond.code ({ cls := "AcousticCamera", name := "alias", desc := "(III)I" } : Jvm.MethodName) prog_1_method_53_code (4 : Nat) (Option.some Jvm.ClassFile.FieldType.int)) ∈ lw_all := lw_g (lw_at lw_m10 89 rfl) rfl
theorem q2386 : (Jvm.Cond.methodLink "AcousticCamera" (318 : Nat) ({ cls := "AcousticCamera", name := "withCells", desc := "(II)LAcousticCamera$State;" } : Jvm.MethodName)) ∈ lw_all := lw_g (lw_at lw_m10 90 rfl) rfl
theorem q2387 : (Jvm.Cond.privateMethod ({ cls := "AcousticCamera", name := "withCells", desc := "(II)LAcousticCamera$State;" } : Jvm.MethodName)) ∈ lw_tbl := lw_at lw_m10 91 rfl
theorem q2388 : (Jvm.Cond.instanceMethod ({ cls := "AcousticCamera", name := "withCells", desc := "(II)LAcousticCamera$State;" } : Jvm.MethodName)) ∈ lw_all := lw_g (lw_at lw_m10 92 rfl) rfl
theorem q2389 : (Jvm.Cond.code ({ cls := "AcousticCamera", name := "withCells", desc := "(II)LAcousticCamera$State;" } : Jvm.MethodName) prog_1_method_15_code (3 : Nat) (Option.some (Jvm.ClassFile.FieldType.object "AcousticCamera$State"))) ∈ lw_all := lw_g (lw_at lw_m10 93 rfl) rfl
theorem q2390 : (Jvm.Cond.methodLink "AcousticCamera" (322 : Nat) ({ cls := "AcousticCamera", name := "isPeriod", desc := "(I)Z" } : Jvm.MethodName)) ∈ lw_all := lw_g (lw_at lw_m10 94 rfl) rfl
theorem q2391 : (Jvm.Cond.static ({ cls := "AcousticCamera", name := "isPeriod", desc := "(I)Z" } : Jvm.MethodName)) ∈ lw_all := lw_g (lw_at lw_m10 95 rfl) rfl
theorem q2392 : (Jvm.Cond.code ({ cls := "AcousticCamera", name := "isPeriod", desc := "(I)Z" } : Jvm.MethodName) prog_1_method_18_code (1 : Nat) (Option.some Jvm.ClassFile.FieldType.boolean)) ∈ lw_all := lw_g (lw_at lw_m10 96 rfl) rfl
theorem q2393 : (Jvm.Cond.constantLong "AcousticCamera" (147 : Nat) (2 : Int64)) ∈ lw_all := lw_g (lw_at lw_m10 97 rfl) rfl
theorem q2394 : (Jvm.Cond.constantLong "AcousticCamera" (149 : Nat) (99 : Int64)) ∈ lw_all := lw_g (lw_at lw_m10 98 rfl) rfl
theorem q2395 : (Jvm.Cond.methodLink "AcousticCamera" (325 : Nat) ({ cls := "AcousticCamera$State", name := "alias", desc := "(III)I" } : Jvm.MethodName)) ∈ lw_all := lw_g (lw_at lw_m10 99 rfl) rfl
theorem q2406 : (Jvm.Cond.instanceMethod ({ cls := "AcousticCamera", name := "isAlias", desc := "(III)Z" } : Jvm.MethodName)) ∈ lw_all := lw_g (lw_at lw_m10 110 rfl) rfl
theorem q2407 : (Jvm.Cond.selects "AcousticCamera" ({ cls := "AcousticCamera", name := "isAlias", desc := "(III)Z" } : Jvm.MethodName) ({ cls := "AcousticCamera", name := "isAlias", desc := "(III)Z" } : Jvm.MethodName)) ∈ lw_all := lw_g (lw_at lw_m10 111 rfl) rfl
theorem q2408 : (Jvm.Cond.code ({ cls := "AcousticCamera", name := "isAlias", desc := "(III)Z" } : Jvm.MethodName) prog_1_method_55_code (4 : Nat) (Option.some Jvm.ClassFile.FieldType.boolean)) ∈ lw_all := lw_g (lw_at lw_m10 112 rfl) rfl
theorem q2409 : (Jvm.Cond.methodLink "AcousticCamera" (330 : Nat) ({ cls := "AcousticCamera", name := "checkShare", desc := "(II)V" } : Jvm.MethodName)) ∈ lw_all := lw_g (lw_at lw_m10 113 rfl) rfl
theorem q2410 : (Jvm.Cond.static ({ cls := "AcousticCamera", name := "checkShare", desc := "(II)V" } : Jvm.MethodName)) ∈ lw_all := lw_g (lw_at lw_m10 114 rfl) rfl
theorem q2411 : (Jvm.Cond.code ({ cls := "AcousticCamera", name := "checkShare", desc := "(II)V" } : Jvm.MethodName) prog_1_method_54_code (2 : Nat) (Option.none : Option Jvm.ClassFile.FieldType)) ∈ lw_all := lw_g (lw_at lw_m10 115 rfl) rfl
theorem q2412 : (Jvm.Cond.constantLong "AcousticCamera" (328 : Nat) (100 : Int64)) ∈ lw_all := lw_g (lw_at lw_m10 116 rfl) rfl
theorem q2413 : (Jvm.Cond.methodLink "AcousticCamera" (333 : Nat) ({ cls := "AcousticCamera$State", name := "isAlias", desc := "(III)Z" } : Jvm.MethodName)) ∈ lw_all := lw_g (lw_at lw_m10 117 rfl) rfl
theorem q2437 : (Jvm.Cond.instanceMethod ({ cls := "AcousticCamera", name := "aliases", desc := "(II)I" } : Jvm.MethodName)) ∈ lw_all := lw_g (lw_at lw_m10 141 rfl) rfl
theorem q2438 : (Jvm.Cond.selects "AcousticCamera" ({ cls := "AcousticCamera", name := "aliases", desc := "(II)I" } : Jvm.MethodName) ({ cls := "AcousticCamera", name := "aliases", desc := "(II)I" } : Jvm.MethodName)) ∈ lw_all := lw_g (lw_at lw_m10 142 rfl) rfl
theorem q2439 : (Jvm.Cond.code ({ cls := "AcousticCamera", name := "aliases", desc := "(II)I" } : Jvm.MethodName) prog_1_method_56_code (4 : Nat) (Option.some Jvm.ClassFile.FieldType.int)) ∈ lw_all := lw_g (lw_at lw_m10 143 rfl) rfl
theorem q2440 : (Jvm.Cond.static ({ cls := "AcousticCamera", name := "lambda$aliases$3", desc := "(LAcousticCamera$State;III)Z" } : Jvm.MethodName)) ∈ lw_all := lw_g (lw_at lw_m10 144 rfl) rfl
theorem q2441 : (Jvm.Cond.code ({ cls := "AcousticCamera", name := "lambda$aliases$3", desc := "(LAcousticCamera$State;III)Z" } : Jvm.MethodName) prog_1_method_96_code (4 : Nat) (Option.some Jvm.ClassFile.FieldType.boolean)) ∈ lw_all := lw_g (lw_at lw_m10 145 rfl) rfl
theorem q2446 : (Jvm.Cond.instanceMethod ({ cls := "AcousticCamera", name := "blockPower", desc := "(III)J" } : Jvm.MethodName)) ∈ lw_all := lw_g (lw_at lw_m10 150 rfl) rfl
theorem q2447 : (Jvm.Cond.selects "AcousticCamera" ({ cls := "AcousticCamera", name := "blockPower", desc := "(III)J" } : Jvm.MethodName) ({ cls := "AcousticCamera", name := "blockPower", desc := "(III)J" } : Jvm.MethodName)) ∈ lw_all := lw_g (lw_at lw_m10 151 rfl) rfl
theorem q2448 : (Jvm.Cond.code ({ cls := "AcousticCamera", name := "blockPower", desc := "(III)J" } : Jvm.MethodName) prog_1_method_58_code (4 : Nat) (Option.some Jvm.ClassFile.FieldType.long)) ∈ lw_all := lw_g (lw_at lw_m10 152 rfl) rfl
theorem q2449 : (Jvm.Cond.methodLink "AcousticCamera" (340 : Nat) ({ cls := "AcousticCamera", name := "checkBlock", desc := "(II)V" } : Jvm.MethodName)) ∈ lw_all := lw_g (lw_at lw_m10 153 rfl) rfl
theorem q2450 : (Jvm.Cond.privateMethod ({ cls := "AcousticCamera", name := "checkBlock", desc := "(II)V" } : Jvm.MethodName)) ∈ lw_tbl := lw_at lw_m10 154 rfl
theorem q2451 : (Jvm.Cond.instanceMethod ({ cls := "AcousticCamera", name := "checkBlock", desc := "(II)V" } : Jvm.MethodName)) ∈ lw_all := lw_g (lw_at lw_m10 155 rfl) rfl
theorem q2452 : (Jvm.Cond.code ({ cls := "AcousticCamera", name := "checkBlock", desc := "(II)V" } : Jvm.MethodName) prog_1_method_57_code (3 : Nat) (Option.none : Option Jvm.ClassFile.FieldType)) ∈ lw_all := lw_g (lw_at lw_m10 156 rfl) rfl
theorem q2453 : (Jvm.Cond.methodLink "AcousticCamera" (343 : Nat) ({ cls := "AcousticCamera$State", name := "blockPower", desc := "(III)J" } : Jvm.MethodName)) ∈ lw_all := lw_g (lw_at lw_m10 157 rfl) rfl
theorem q2461 : (Jvm.Cond.instanceMethod ({ cls := "AcousticCamera", name := "blockBest", desc := "(II)I" } : Jvm.MethodName)) ∈ lw_all := lw_g (lw_at lw_m10 165 rfl) rfl
theorem q2462 : (Jvm.Cond.selects "AcousticCamera" ({ cls := "AcousticCamera", name := "blockBest", desc := "(II)I" } : Jvm.MethodName) ({ cls := "AcousticCamera", name := "blockBest", desc := "(II)I" } : Jvm.MethodName)) ∈ lw_all := lw_g (lw_at lw_m10 166 rfl) rfl
theorem q2463 : (Jvm.Cond.code ({ cls := "AcousticCamera", name := "blockBest", desc := "(II)I" } : Jvm.MethodName) prog_1_method_59_code (3 : Nat) (Option.some Jvm.ClassFile.FieldType.int)) ∈ lw_all := lw_g (lw_at lw_m10 167 rfl) rfl
theorem q2464 : (Jvm.Cond.methodLink "AcousticCamera" (347 : Nat) ({ cls := "AcousticCamera$State", name := "blockBest", desc := "(II)I" } : Jvm.MethodName)) ∈ lw_all := lw_g (lw_at lw_m10 168 rfl) rfl
theorem q2476 : (Jvm.Cond.instanceMethod ({ cls := "AcousticCamera", name := "path", desc := "(I)I" } : Jvm.MethodName)) ∈ lw_all := lw_g (lw_at lw_m10 180 rfl) rfl
theorem q2477 : (Jvm.Cond.selects "AcousticCamera" ({ cls := "AcousticCamera", name := "path", desc := "(I)I" } : Jvm.MethodName) ({ cls := "AcousticCamera", name := "path", desc := "(I)I" } : Jvm.MethodName)) ∈ lw_all := lw_g (lw_at lw_m10 181 rfl) rfl
theorem q2478 : (Jvm.Cond.code ({ cls := "AcousticCamera", name := "path", desc := "(I)I" } : Jvm.MethodName) prog_1_method_60_code (6 : Nat) (Option.some Jvm.ClassFile.FieldType.int)) ∈ lw_all := lw_g (lw_at lw_m10 182 rfl) rfl
theorem q2479 : (Jvm.Cond.constantLong "AcousticCamera" (350 : Nat) (4 : Int64)) ∈ lw_all := lw_g (lw_at lw_m10 183 rfl) rfl
theorem q2484 : (Jvm.Cond.instanceMethod ({ cls := "AcousticCamera", name := "trackScore", desc := "(I)J" } : Jvm.MethodName)) ∈ lw_all := lw_g (lw_at lw_m10 188 rfl) rfl
theorem q2485 : (Jvm.Cond.selects "AcousticCamera" ({ cls := "AcousticCamera", name := "trackScore", desc := "(I)J" } : Jvm.MethodName) ({ cls := "AcousticCamera", name := "trackScore", desc := "(I)J" } : Jvm.MethodName)) ∈ lw_all := lw_g (lw_at lw_m10 189 rfl) rfl
theorem q2486 : (Jvm.Cond.code ({ cls := "AcousticCamera", name := "trackScore", desc := "(I)J" } : Jvm.MethodName) prog_1_method_62_code (3 : Nat) (Option.some Jvm.ClassFile.FieldType.long)) ∈ lw_all := lw_g (lw_at lw_m10 190 rfl) rfl
theorem q2487 : (Jvm.Cond.methodLink "AcousticCamera" (352 : Nat) ({ cls := "AcousticCamera", name := "checkLength", desc := "(I)V" } : Jvm.MethodName)) ∈ lw_all := lw_g (lw_at lw_m10 191 rfl) rfl
theorem q2488 : (Jvm.Cond.privateMethod ({ cls := "AcousticCamera", name := "checkLength", desc := "(I)V" } : Jvm.MethodName)) ∈ lw_tbl := lw_at lw_m10 192 rfl
theorem q2489 : (Jvm.Cond.instanceMethod ({ cls := "AcousticCamera", name := "checkLength", desc := "(I)V" } : Jvm.MethodName)) ∈ lw_all := lw_g (lw_at lw_m10 193 rfl) rfl
theorem q2490 : (Jvm.Cond.code ({ cls := "AcousticCamera", name := "checkLength", desc := "(I)V" } : Jvm.MethodName) prog_1_method_61_code (2 : Nat) (Option.none : Option Jvm.ClassFile.FieldType)) ∈ lw_all := lw_g (lw_at lw_m10 194 rfl) rfl
theorem q2491 : (Jvm.Cond.methodLink "AcousticCamera" (356 : Nat) ({ cls := "AcousticCamera$State", name := "scores", desc := "(I)[[J" } : Jvm.MethodName)) ∈ lw_all := lw_g (lw_at lw_m10 195 rfl) rfl
theorem q2506 : (Jvm.Cond.static ({ cls := "AcousticCamera", name := "lambda$trackScore$4", desc := "([JI)J" } : Jvm.MethodName)) ∈ lw_all := lw_g (lw_at lw_m10 210 rfl) rfl
theorem q2507 : (Jvm.Cond.code ({ cls := "AcousticCamera", name := "lambda$trackScore$4", desc := "([JI)J" } : Jvm.MethodName) prog_1_method_95_code (2 : Nat) (Option.some Jvm.ClassFile.FieldType.long)) ∈ lw_all := lw_g (lw_at lw_m10 211 rfl) rfl
theorem q2512 : (Jvm.Cond.instanceMethod ({ cls := "AcousticCamera", name := "trackCell", desc := "(II)I" } : Jvm.MethodName)) ∈ lw_all := lw_g (lw_at lw_m10 216 rfl) rfl
theorem q2513 : (Jvm.Cond.selects "AcousticCamera" ({ cls := "AcousticCamera", name := "trackCell", desc := "(II)I" } : Jvm.MethodName) ({ cls := "AcousticCamera", name := "trackCell", desc := "(II)I" } : Jvm.MethodName)) ∈ lw_all := lw_g (lw_at lw_m10 217 rfl) rfl
theorem q2514 : (Jvm.Cond.code ({ cls := "AcousticCamera", name := "trackCell", desc := "(II)I" } : Jvm.MethodName) prog_1_method_63_code (6 : Nat) (Option.some Jvm.ClassFile.FieldType.int)) ∈ lw_all := lw_g (lw_at lw_m10 218 rfl) rfl
theorem q2515 : (Jvm.Cond.static ({ cls := "AcousticCamera", name := "lambda$trackCell$5", desc := "([[JI)J" } : Jvm.MethodName)) ∈ lw_all := lw_g (lw_at lw_m10 219 rfl) rfl
theorem q2516 : (Jvm.Cond.code ({ cls := "AcousticCamera", name := "lambda$trackCell$5", desc := "([[JI)J" } : Jvm.MethodName) prog_1_method_94_code (2 : Nat) (Option.some Jvm.ClassFile.FieldType.long)) ∈ lw_all := lw_g (lw_at lw_m10 220 rfl) rfl
theorem q2517 : (Jvm.Cond.methodLink "AcousticCamera" (366 : Nat) ({ cls := "AcousticCamera$State", name := "next", desc := "([JI)I" } : Jvm.MethodName)) ∈ lw_all := lw_g (lw_at lw_m10 221 rfl) rfl
theorem q2522 : (Jvm.Cond.instanceMethod ({ cls := "AcousticCamera", name := "movingPower", desc := "(III)J" } : Jvm.MethodName)) ∈ lw_all := lw_g (lw_at lw_m10 226 rfl) rfl
theorem q2523 : (Jvm.Cond.selects "AcousticCamera" ({ cls := "AcousticCamera", name := "movingPower", desc := "(III)J" } : Jvm.MethodName) ({ cls := "AcousticCamera", name := "movingPower", desc := "(III)J" } : Jvm.MethodName)) ∈ lw_all := lw_g (lw_at lw_m10 227 rfl) rfl
theorem q2524 : (Jvm.Cond.code ({ cls := "AcousticCamera", name := "movingPower", desc := "(III)J" } : Jvm.MethodName) prog_1_method_64_code (4 : Nat) (Option.some Jvm.ClassFile.FieldType.long)) ∈ lw_all := lw_g (lw_at lw_m10 228 rfl) rfl
theorem q2525 : (Jvm.Cond.constantLong "AcousticCamera" (369 : Nat) (-999 : Int64)) ∈ lw_all := lw_g (lw_at lw_m10 229 rfl) rfl
theorem q2526 : (Jvm.Cond.constantLong "AcousticCamera" (371 : Nat) (999 : Int64)) ∈ lw_all := lw_g (lw_at lw_m10 230 rfl) rfl
theorem q2527 : (Jvm.Cond.methodLink "AcousticCamera" (373 : Nat) ({ cls := "AcousticCamera$State", name := "movingPower", desc := "(III)J" } : Jvm.MethodName)) ∈ lw_all := lw_g (lw_at lw_m10 231 rfl) rfl
theorem q2537 : (Jvm.Cond.instanceMethod ({ cls := "AcousticCamera", name := "bestVelocity", desc := "(III)I" } : Jvm.MethodName)) ∈ lw_all := lw_g (lw_at lw_m11 1 rfl) rfl
theorem q2538 : (Jvm.Cond.selects "AcousticCamera" ({ cls := "AcousticCamera", name := "bestVelocity", desc := "(III)I" } : Jvm.MethodName) ({ cls := "AcousticCamera", name := "bestVelocity", desc := "(III)I" } : Jvm.MethodName)) ∈ lw_all := lw_g (lw_at lw_m11 2 rfl) rfl
theorem q2539 : (Jvm.Cond.code ({ cls := "AcousticCamera", name := "bestVelocity", desc := "(III)I" } : Jvm.MethodName) prog_1_method_65_code (7 : Nat) (Option.some Jvm.ClassFile.FieldType.int)) ∈ lw_all := lw_g (lw_at lw_m11 3 rfl) rfl
theorem q2540 : (Jvm.Cond.static ({ cls := "AcousticCamera", name := "lambda$bestVelocity$6", desc := "(LAcousticCamera$State;IIIII)J" } : Jvm.MethodName)) ∈ lw_all := lw_g (lw_at lw_m11 4 rfl) rfl
theorem q2541 : (Jvm.Cond.code ({ cls := "AcousticCamera", name := "lambda$bestVelocity$6", desc := "(LAcousticCamera$State;IIIII)J" } : Jvm.MethodName) prog_1_method_93_code (6 : Nat) (Option.some Jvm.ClassFile.FieldType.long)) ∈ lw_all := lw_g (lw_at lw_m11 5 rfl) rfl
theorem q2546 : (Jvm.Cond.instanceMethod ({ cls := "AcousticCamera", name := "correlation", desc := "(III)J" } : Jvm.MethodName)) ∈ lw_all := lw_g (lw_at lw_m11 10 rfl) rfl
theorem q2547 : (Jvm.Cond.selects "AcousticCamera" ({ cls := "AcousticCamera", name := "correlation", desc := "(III)J" } : Jvm.MethodName) ({ cls := "AcousticCamera", name := "correlation", desc := "(III)J" } : Jvm.MethodName)) ∈ lw_all := lw_g (lw_at lw_m11 11 rfl) rfl
theorem q2548 : (Jvm.Cond.code ({ cls := "AcousticCamera", name := "correlation", desc := "(III)J" } : Jvm.MethodName) prog_1_method_66_code (4 : Nat) (Option.some Jvm.ClassFile.FieldType.long)) ∈ lw_all := lw_g (lw_at lw_m11 12 rfl) rfl
theorem q2549 : (Jvm.Cond.methodLink "AcousticCamera" (379 : Nat) ({ cls := "AcousticCamera", name := "withMics", desc := "(II)LAcousticCamera$State;" } : Jvm.MethodName)) ∈ lw_all := lw_g (lw_at lw_m11 13 rfl) rfl
theorem q2550 : (Jvm.Cond.privateMethod ({ cls := "AcousticCamera", name := "withMics", desc := "(II)LAcousticCamera$State;" } : Jvm.MethodName)) ∈ lw_tbl := lw_at lw_m11 14 rfl
theorem q2551 : (Jvm.Cond.instanceMethod ({ cls := "AcousticCamera", name := "withMics", desc := "(II)LAcousticCamera$State;" } : Jvm.MethodName)) ∈ lw_all := lw_g (lw_at lw_m11 15 rfl) rfl
theorem q2552 : (Jvm.Cond.code ({ cls := "AcousticCamera", name := "withMics", desc := "(II)LAcousticCamera$State;" } : Jvm.MethodName) prog_1_method_14_code (3 : Nat) (Option.some (Jvm.ClassFile.FieldType.object "AcousticCamera$State"))) ∈ lw_all := lw_g (lw_at lw_m11 16 rfl) rfl
theorem q2553 : (Jvm.Cond.methodLink "AcousticCamera" (382 : Nat) ({ cls := "AcousticCamera$State", name := "correlation", desc := "(III)J" } : Jvm.MethodName)) ∈ lw_all := lw_g (lw_at lw_m11 17 rfl) rfl
theorem q2561 : (Jvm.Cond.instanceMethod ({ cls := "AcousticCamera", name := "bestLag", desc := "(III)I" } : Jvm.MethodName)) ∈ lw_all := lw_g (lw_at lw_m11 25 rfl) rfl
theorem q2562 : (Jvm.Cond.selects "AcousticCamera" ({ cls := "AcousticCamera", name := "bestLag", desc := "(III)I" } : Jvm.MethodName) ({ cls := "AcousticCamera", name := "bestLag", desc := "(III)I" } : Jvm.MethodName)) ∈ lw_all := lw_g (lw_at lw_m11 26 rfl) rfl
theorem q2563 : (Jvm.Cond.code ({ cls := "AcousticCamera", name := "bestLag", desc := "(III)I" } : Jvm.MethodName) prog_1_method_67_code (5 : Nat) (Option.some Jvm.ClassFile.FieldType.int)) ∈ lw_all := lw_g (lw_at lw_m11 27 rfl) rfl
theorem q2564 : (Jvm.Cond.static ({ cls := "AcousticCamera", name := "lambda$bestLag$7", desc := "(LAcousticCamera$State;III)J" } : Jvm.MethodName)) ∈ lw_all := lw_g (lw_at lw_m11 28 rfl) rfl
theorem q2565 : (Jvm.Cond.code ({ cls := "AcousticCamera", name := "lambda$bestLag$7", desc := "(LAcousticCamera$State;III)J" } : Jvm.MethodName) prog_1_method_92_code (4 : Nat) (Option.some Jvm.ClassFile.FieldType.long)) ∈ lw_all := lw_g (lw_at lw_m11 29 rfl) rfl
theorem q2570 : (Jvm.Cond.instanceMethod ({ cls := "AcousticCamera", name := "level", desc := "(I)J" } : Jvm.MethodName)) ∈ lw_all := lw_g (lw_at lw_m11 34 rfl) rfl
theorem q2571 : (Jvm.Cond.selects "AcousticCamera" ({ cls := "AcousticCamera", name := "level", desc := "(I)J" } : Jvm.MethodName) ({ cls := "AcousticCamera", name := "level", desc := "(I)J" } : Jvm.MethodName)) ∈ lw_all := lw_g (lw_at lw_m11 35 rfl) rfl
theorem q2572 : (Jvm.Cond.code ({ cls := "AcousticCamera", name := "level", desc := "(I)J" } : Jvm.MethodName) prog_1_method_68_code (2 : Nat) (Option.some Jvm.ClassFile.FieldType.long)) ∈ lw_all := lw_g (lw_at lw_m11 36 rfl) rfl
theorem q2573 : (Jvm.Cond.methodLink "AcousticCamera" (388 : Nat) ({ cls := "AcousticCamera$State", name := "level", desc := "(I)J" } : Jvm.MethodName)) ∈ lw_all := lw_g (lw_at lw_m11 37 rfl) rfl
theorem q2581 : (Jvm.Cond.instanceMethod ({ cls := "AcousticCamera", name := "loudest", desc := "(I)I" } : Jvm.MethodName)) ∈ lw_all := lw_g (lw_at lw_m11 45 rfl) rfl
theorem q2582 : (Jvm.Cond.selects "AcousticCamera" ({ cls := "AcousticCamera", name := "loudest", desc := "(I)I" } : Jvm.MethodName) ({ cls := "AcousticCamera", name := "loudest", desc := "(I)I" } : Jvm.MethodName)) ∈ lw_all := lw_g (lw_at lw_m11 46 rfl) rfl
theorem q2583 : (Jvm.Cond.code ({ cls := "AcousticCamera", name := "loudest", desc := "(I)I" } : Jvm.MethodName) prog_1_method_69_code (3 : Nat) (Option.some Jvm.ClassFile.FieldType.int)) ∈ lw_all := lw_g (lw_at lw_m11 47 rfl) rfl
theorem q2584 : (Jvm.Cond.static ({ cls := "AcousticCamera", name := "lambda$loudest$8", desc := "(I)Z" } : Jvm.MethodName)) ∈ lw_all := lw_g (lw_at lw_m11 48 rfl) rfl
theorem q2585 : (Jvm.Cond.code ({ cls := "AcousticCamera", name := "lambda$loudest$8", desc := "(I)Z" } : Jvm.MethodName) prog_1_method_91_code (1 : Nat) (Option.some Jvm.ClassFile.FieldType.boolean)) ∈ lw_all := lw_g (lw_at lw_m11 49 rfl) rfl
theorem q2586 : (Jvm.Cond.static ({ cls := "AcousticCamera", name := "lambda$loudest$9", desc := "(LAcousticCamera$State;I)J" } : Jvm.MethodName)) ∈ lw_all := lw_g (lw_at lw_m11 50 rfl) rfl
theorem q2587 : (Jvm.Cond.code ({ cls := "AcousticCamera", name := "lambda$loudest$9", desc := "(LAcousticCamera$State;I)J" } : Jvm.MethodName) prog_1_method_90_code (2 : Nat) (Option.some Jvm.ClassFile.FieldType.long)) ∈ lw_all := lw_g (lw_at lw_m11 51 rfl) rfl
theorem q2588 : (Jvm.Cond.methodLink "AcousticCamera" (397 : Nat) ({ cls := "AcousticCamera", name := "ranking", desc := "(ILAcousticCamera$Choice;LAcousticCamera$Score;)Ljava/util/LinkedList;" } : Jvm.MethodName)) ∈ lw_all := lw_g (lw_at lw_m11 52 rfl) rfl
theorem q2593 : (Jvm.Cond.instanceMethod ({ cls := "AcousticCamera", name := "writeMap", desc := "()I" } : Jvm.MethodName)) ∈ lw_all := lw_g (lw_at lw_m11 57 rfl) rfl
theorem q2594 : (Jvm.Cond.selects "AcousticCamera" ({ cls := "AcousticCamera", name := "writeMap", desc := "()I" } : Jvm.MethodName) ({ cls := "AcousticCamera", name := "writeMap", desc := "()I" } : Jvm.MethodName)) ∈ lw_all := lw_g (lw_at lw_m11 58 rfl) rfl
theorem q2595 : (Jvm.Cond.code ({ cls := "AcousticCamera", name := "writeMap", desc := "()I" } : Jvm.MethodName) prog_1_method_70_code (5 : Nat) (Option.some Jvm.ClassFile.FieldType.int)) ∈ lw_all := lw_g (lw_at lw_m11 59 rfl) rfl
theorem q2596 : (Jvm.Cond.methodLink "AcousticCamera" (401 : Nat) ({ cls := "java/lang/StringBuilder", name := "setLength", desc := "(I)V" } : Jvm.MethodName)) ∈ lw_all := lw_g (lw_at lw_m11 60 rfl) rfl
theorem q2648 : (Jvm.Cond.methodLink "AcousticCamera" (404 : Nat) ({ cls := "java/lang/StringBuilder", name := "append", desc := "(C)Ljava/lang/StringBuilder;" } : Jvm.MethodName)) ∈ lw_all := lw_g (lw_at lw_m11 112 rfl) rfl
theorem q2649 : (Jvm.Cond.constantLong "AcousticCamera" (408 : Nat) (9 : Int64)) ∈ lw_all := lw_g (lw_at lw_m11 113 rfl) rfl
theorem q2650 : (Jvm.Cond.methodLink "AcousticCamera" (410 : Nat) ({ cls := "java/lang/StringBuilder", name := "append", desc := "(J)Ljava/lang/StringBuilder;" } : Jvm.MethodName)) ∈ lw_all := lw_g (lw_at lw_m11 114 rfl) rfl
theorem q2677 : (Jvm.Cond.methodLink "AcousticCamera" (413 : Nat) ({ cls := "java/lang/StringBuilder", name := "length", desc := "()I" } : Jvm.MethodName)) ∈ lw_all := lw_g (lw_at lw_m11 141 rfl) rfl
theorem q2682 : (Jvm.Cond.instanceMethod ({ cls := "AcousticCamera", name := "mapByte", desc := "(I)I" } : Jvm.MethodName)) ∈ lw_all := lw_g (lw_at lw_m11 146 rfl) rfl
theorem q2683 : (Jvm.Cond.selects "AcousticCamera" ({ cls := "AcousticCamera", name := "mapByte", desc := "(I)I" } : Jvm.MethodName) ({ cls := "AcousticCamera", name := "mapByte", desc := "(I)I" } : Jvm.MethodName)) ∈ lw_all := lw_g (lw_at lw_m11 147 rfl) rfl
theorem q2684 : (Jvm.Cond.code ({ cls := "AcousticCamera", name := "mapByte", desc := "(I)I" } : Jvm.MethodName) prog_1_method_71_code (2 : Nat) (Option.some Jvm.ClassFile.FieldType.int)) ∈ lw_all := lw_g (lw_at lw_m11 148 rfl) rfl
theorem q2685 : (Jvm.Cond.methodLink "AcousticCamera" (416 : Nat) ({ cls := "java/lang/StringBuilder", name := "charAt", desc := "(I)C" } : Jvm.MethodName)) ∈ lw_all := lw_g (lw_at lw_m11 149 rfl) rfl
theorem q2699 : (Jvm.Cond.instanceMethod ({ cls := "AcousticCamera", name := "pointBest", desc := "(II)I" } : Jvm.MethodName)) ∈ lw_all := lw_g (lw_at lw_m11 163 rfl) rfl
theorem q2700 : (Jvm.Cond.selects "AcousticCamera" ({ cls := "AcousticCamera", name := "pointBest", desc := "(II)I" } : Jvm.MethodName) ({ cls := "AcousticCamera", name := "pointBest", desc := "(II)I" } : Jvm.MethodName)) ∈ lw_all := lw_g (lw_at lw_m11 164 rfl) rfl
theorem q2701 : (Jvm.Cond.code ({ cls := "AcousticCamera", name := "pointBest", desc := "(II)I" } : Jvm.MethodName) prog_1_method_73_code (3 : Nat) (Option.some Jvm.ClassFile.FieldType.int)) ∈ lw_all := lw_g (lw_at lw_m11 165 rfl) rfl
theorem q2702 : (Jvm.Cond.methodLink "AcousticCamera" (439 : Nat) ({ cls := "AcousticCamera", name := "pointed", desc := "(II)LAcousticCamera$State;" } : Jvm.MethodName)) ∈ lw_all := lw_g (lw_at lw_m11 166 rfl) rfl
theorem q2703 : (Jvm.Cond.privateMethod ({ cls := "AcousticCamera", name := "pointed", desc := "(II)LAcousticCamera$State;" } : Jvm.MethodName)) ∈ lw_tbl := lw_at lw_m11 167 rfl
theorem q2704 : (Jvm.Cond.instanceMethod ({ cls := "AcousticCamera", name := "pointed", desc := "(II)LAcousticCamera$State;" } : Jvm.MethodName)) ∈ lw_all := lw_g (lw_at lw_m11 168 rfl) rfl
theorem q2705 : (Jvm.Cond.code ({ cls := "AcousticCamera", name := "pointed", desc := "(II)LAcousticCamera$State;" } : Jvm.MethodName) prog_1_method_72_code (7 : Nat) (Option.some (Jvm.ClassFile.FieldType.object "AcousticCamera$State"))) ∈ lw_all := lw_g (lw_at lw_m11 169 rfl) rfl
theorem q2706 : (Jvm.Cond.methodLink "AcousticCamera" (420 : Nat) ({ cls := "AcousticCamera$State", name := "copy", desc := "()LAcousticCamera$State;" } : Jvm.MethodName)) ∈ lw_all := lw_g (lw_at lw_m11 170 rfl) rfl
theorem q2727 : (Jvm.Cond.classLink "AcousticCamera" (230 : Nat) "AcousticCamera$Source") ∈ lw_all := lw_g (lw_at lw_m11 191 rfl) rfl
theorem q2728 : (Jvm.Cond.methodLink "AcousticCamera" (423 : Nat) ({ cls := "AcousticCamera$Waves", name := "square", desc := "(III)LAcousticCamera$Wave;" } : Jvm.MethodName)) ∈ lw_all := lw_g (lw_at lw_m11 192 rfl) rfl
theorem q2729 : (Jvm.Cond.methodLink "AcousticCamera" (429 : Nat) ({ cls := "AcousticCamera$Source", name := "<init>", desc := "(LAcousticCamera$Wave;IIIII)V" } : Jvm.MethodName)) ∈ lw_all := lw_g (lw_at lw_m11 193 rfl) rfl
theorem q2730 : (Jvm.Cond.methodLink "AcousticCamera" (432 : Nat) ({ cls := "java/util/BitSet", name := "clear", desc := "()V" } : Jvm.MethodName)) ∈ lw_all := lw_g (lw_at lw_m11 194 rfl) rfl
theorem q2731 : (Jvm.Cond.methodLinkNest "AcousticCamera" (433 : Nat) ({ cls := "AcousticCamera$State", name := "add", desc := "(LAcousticCamera$Source;I)V" } : Jvm.MethodName) "AcousticCamera") ∈ lw_tbl := lw_at lw_m11 195 rfl
theorem q2732 : (Jvm.Cond.methodLinkNest "AcousticCamera" (436 : Nat) ({ cls := "AcousticCamera$State", name := "finish", desc := "(I)V" } : Jvm.MethodName) "AcousticCamera") ∈ lw_tbl := lw_at lw_m11 196 rfl
theorem q2737 : (Jvm.Cond.instanceMethod ({ cls := "AcousticCamera", name := "pointPower", desc := "(III)J" } : Jvm.MethodName)) ∈ lw_all := lw_g (lw_at lw_m11 201 rfl) rfl
theorem q2738 : (Jvm.Cond.selects "AcousticCamera" ({ cls := "AcousticCamera", name := "pointPower", desc := "(III)J" } : Jvm.MethodName) ({ cls := "AcousticCamera", name := "pointPower", desc := "(III)J" } : Jvm.MethodName)) ∈ lw_all := lw_g (lw_at lw_m11 202 rfl) rfl
theorem q2739 : (Jvm.Cond.code ({ cls := "AcousticCamera", name := "pointPower", desc := "(III)J" } : Jvm.MethodName) prog_1_method_74_code (4 : Nat) (Option.some Jvm.ClassFile.FieldType.long)) ∈ lw_all := lw_g (lw_at lw_m11 203 rfl) rfl
theorem q2744 : (Jvm.Cond.instanceMethod ({ cls := "AcousticCamera", name := "bestWithout", desc := "(I)I" } : Jvm.MethodName)) ∈ lw_all := lw_g (lw_at lw_m11 208 rfl) rfl
theorem q2745 : (Jvm.Cond.selects "AcousticCamera" ({ cls := "AcousticCamera", name := "bestWithout", desc := "(I)I" } : Jvm.MethodName) ({ cls := "AcousticCamera", name := "bestWithout", desc := "(I)I" } : Jvm.MethodName)) ∈ lw_all := lw_g (lw_at lw_m11 209 rfl) rfl
theorem q2746 : (Jvm.Cond.code ({ cls := "AcousticCamera", name := "bestWithout", desc := "(I)I" } : Jvm.MethodName) prog_1_method_75_code (3 : Nat) (Option.some Jvm.ClassFile.FieldType.int)) ∈ lw_all := lw_g (lw_at lw_m11 210 rfl) rfl
theorem q2747 : (Jvm.Cond.methodLink "AcousticCamera" (445 : Nat) ({ cls := "java/util/BitSet", name := "set", desc := "(I)V" } : Jvm.MethodName)) ∈ lw_all := lw_g (lw_at lw_m11 211 rfl) rfl
theorem q2752 : (Jvm.Cond.instanceMethod ({ cls := "AcousticCamera", name := "bestIfOff", desc := "(I)I" } : Jvm.MethodName)) ∈ lw_all := lw_g (lw_at lw_m11 216 rfl) rfl
theorem q2753 : (Jvm.Cond.selects "AcousticCamera" ({ cls := "AcousticCamera", name := "bestIfOff", desc := "(I)I" } : Jvm.MethodName) ({ cls := "AcousticCamera", name := "bestIfOff", desc := "(I)I" } : Jvm.MethodName)) ∈ lw_all := lw_g (lw_at lw_m11 217 rfl) rfl
theorem q2754 : (Jvm.Cond.code ({ cls := "AcousticCamera", name := "bestIfOff", desc := "(I)I" } : Jvm.MethodName) prog_1_method_76_code (3 : Nat) (Option.some Jvm.ClassFile.FieldType.int)) ∈ lw_all := lw_g (lw_at lw_m11 218 rfl) rfl
theorem q2755 : (Jvm.Cond.methodLink "AcousticCamera" (451 : Nat) ({ cls := "java/util/BitSet", name := "clear", desc := "(I)V" } : Jvm.MethodName)) ∈ lw_all := lw_g (lw_at lw_m11 219 rfl) rfl
theorem q2763 : (Jvm.Cond.instanceMethod ({ cls := "AcousticCamera", name := "mute", desc := "(IZ)Z" } : Jvm.MethodName)) ∈ lw_all := lw_g (lw_at lw_m11 227 rfl) rfl
theorem q2764 : (Jvm.Cond.selects "AcousticCamera" ({ cls := "AcousticCamera", name := "mute", desc := "(IZ)Z" } : Jvm.MethodName) ({ cls := "AcousticCamera", name := "mute", desc := "(IZ)Z" } : Jvm.MethodName)) ∈ lw_all := lw_g (lw_at lw_m11 228 rfl) rfl
theorem q2765 : (Jvm.Cond.code ({ cls := "AcousticCamera", name := "mute", desc := "(IZ)Z" } : Jvm.MethodName) prog_1_method_78_code (4 : Nat) (Option.some Jvm.ClassFile.FieldType.boolean)) ∈ lw_all := lw_g (lw_at lw_m11 229 rfl) rfl
theorem q2766 : (Jvm.Cond.methodLink "AcousticCamera" (461 : Nat) ({ cls := "AcousticCamera", name := "keep", desc := "()V" } : Jvm.MethodName)) ∈ lw_all := lw_g (lw_at lw_m11 230 rfl) rfl
theorem q2767 : (Jvm.Cond.privateMethod ({ cls := "AcousticCamera", name := "keep", desc := "()V" } : Jvm.MethodName)) ∈ lw_tbl := lw_at lw_m11 231 rfl
theorem q2768 : (Jvm.Cond.instanceMethod ({ cls := "AcousticCamera", name := "keep", desc := "()V" } : Jvm.MethodName)) ∈ lw_all := lw_g (lw_at lw_m11 232 rfl) rfl
theorem q2769 : (Jvm.Cond.code ({ cls := "AcousticCamera", name := "keep", desc := "()V" } : Jvm.MethodName) prog_1_method_77_code (1 : Nat) (Option.none : Option Jvm.ClassFile.FieldType)) ∈ lw_all := lw_g (lw_at lw_m11 233 rfl) rfl
theorem q2770 : (Jvm.Cond.methodLink "AcousticCamera" (454 : Nat) ({ cls := "java/util/ArrayDeque", name := "removeFirst", desc := "()Ljava/lang/Object;" } : Jvm.MethodName)) ∈ lw_all := lw_g (lw_at lw_m11 234 rfl) rfl
theorem q2784 : (Jvm.Cond.methodLink "AcousticCamera" (457 : Nat) ({ cls := "java/util/ArrayDeque", name := "addLast", desc := "(Ljava/lang/Object;)V" } : Jvm.MethodName)) ∈ lw_all := lw_g (lw_at lw_m12 8 rfl) rfl
theorem q2806 : (Jvm.Cond.methodLink "AcousticCamera" (464 : Nat) ({ cls := "java/util/BitSet", name := "set", desc := "(IZ)V" } : Jvm.MethodName)) ∈ lw_all := lw_g (lw_at lw_m12 30 rfl) rfl
theorem q2816 : (Jvm.Cond.instanceMethod ({ cls := "AcousticCamera", name := "setWeight", desc := "(II)I" } : Jvm.MethodName)) ∈ lw_all := lw_g (lw_at lw_m12 40 rfl) rfl
theorem q2817 : (Jvm.Cond.selects "AcousticCamera" ({ cls := "AcousticCamera", name := "setWeight", desc := "(II)I" } : Jvm.MethodName) ({ cls := "AcousticCamera", name := "setWeight", desc := "(II)I" } : Jvm.MethodName)) ∈ lw_all := lw_g (lw_at lw_m12 41 rfl) rfl
theorem q2818 : (Jvm.Cond.code ({ cls := "AcousticCamera", name := "setWeight", desc := "(II)I" } : Jvm.MethodName) prog_1_method_79_code (4 : Nat) (Option.some Jvm.ClassFile.FieldType.int)) ∈ lw_all := lw_g (lw_at lw_m12 42 rfl) rfl
theorem q2823 : (Jvm.Cond.instanceMethod ({ cls := "AcousticCamera", name := "setOn", desc := "(IZ)Z" } : Jvm.MethodName)) ∈ lw_all := lw_g (lw_at lw_m12 47 rfl) rfl
theorem q2824 : (Jvm.Cond.selects "AcousticCamera" ({ cls := "AcousticCamera", name := "setOn", desc := "(IZ)Z" } : Jvm.MethodName) ({ cls := "AcousticCamera", name := "setOn", desc := "(IZ)Z" } : Jvm.MethodName)) ∈ lw_all := lw_g (lw_at lw_m12 48 rfl) rfl
theorem q2825 : (Jvm.Cond.code ({ cls := "AcousticCamera", name := "setOn", desc := "(IZ)Z" } : Jvm.MethodName) prog_1_method_80_code (4 : Nat) (Option.some Jvm.ClassFile.FieldType.boolean)) ∈ lw_all := lw_g (lw_at lw_m12 49 rfl) rfl
theorem q2830 : (Jvm.Cond.instanceMethod ({ cls := "AcousticCamera", name := "moveSource", desc := "(III)I" } : Jvm.MethodName)) ∈ lw_all := lw_g (lw_at lw_m12 54 rfl) rfl
theorem q2831 : (Jvm.Cond.selects "AcousticCamera" ({ cls := "AcousticCamera", name := "moveSource", desc := "(III)I" } : Jvm.MethodName) ({ cls := "AcousticCamera", name := "moveSource", desc := "(III)I" } : Jvm.MethodName)) ∈ lw_all := lw_g (lw_at lw_m12 55 rfl) rfl
theorem q2832 : (Jvm.Cond.code ({ cls := "AcousticCamera", name := "moveSource", desc := "(III)I" } : Jvm.MethodName) prog_1_method_82_code (5 : Nat) (Option.some Jvm.ClassFile.FieldType.int)) ∈ lw_all := lw_g (lw_at lw_m12 56 rfl) rfl
theorem q2833 : (Jvm.Cond.constantLong "AcousticCamera" (467 : Nat) (-2000 : Int64)) ∈ lw_all := lw_g (lw_at lw_m12 57 rfl) rfl
theorem q2834 : (Jvm.Cond.constantLong "AcousticCamera" (469 : Nat) (2000 : Int64)) ∈ lw_all := lw_g (lw_at lw_m12 58 rfl) rfl
theorem q2835 : (Jvm.Cond.methodLink "AcousticCamera" (484 : Nat) ({ cls := "AcousticCamera", name := "become", desc := "(ILAcousticCamera$Source;)I" } : Jvm.MethodName)) ∈ lw_all := lw_g (lw_at lw_m12 59 rfl) rfl
theorem q2836 : (Jvm.Cond.privateMethod ({ cls := "AcousticCamera", name := "become", desc := "(ILAcousticCamera$Source;)I" } : Jvm.MethodName)) ∈ lw_tbl := lw_at lw_m12 60 rfl
theorem q2837 : (Jvm.Cond.instanceMethod ({ cls := "AcousticCamera", name := "become", desc := "(ILAcousticCamera$Source;)I" } : Jvm.MethodName)) ∈ lw_all := lw_g (lw_at lw_m12 61 rfl) rfl
theorem q2838 : (Jvm.Cond.code ({ cls := "AcousticCamera", name := "become", desc := "(ILAcousticCamera$Source;)I" } : Jvm.MethodName) prog_1_method_81_code (3 : Nat) (Option.some Jvm.ClassFile.FieldType.int)) ∈ lw_all := lw_g (lw_at lw_m12 62 rfl) rfl
theorem q2843 : (Jvm.Cond.instanceMethod ({ cls := "AcousticCamera", name := "setVelocity", desc := "(III)I" } : Jvm.MethodName)) ∈ lw_all := lw_g (lw_at lw_m12 67 rfl) rfl
theorem q2844 : (Jvm.Cond.selects "AcousticCamera" ({ cls := "AcousticCamera", name := "setVelocity", desc := "(III)I" } : Jvm.MethodName) ({ cls := "AcousticCamera", name := "setVelocity", desc := "(III)I" } : Jvm.MethodName)) ∈ lw_all := lw_g (lw_at lw_m12 68 rfl) rfl
theorem q2845 : (Jvm.Cond.code ({ cls := "AcousticCamera", name := "setVelocity", desc := "(III)I" } : Jvm.MethodName) prog_1_method_83_code (5 : Nat) (Option.some Jvm.ClassFile.FieldType.int)) ∈ lw_all := lw_g (lw_at lw_m12 69 rfl) rfl
theorem q2850 : (Jvm.Cond.instanceMethod ({ cls := "AcousticCamera", name := "clean", desc := "(I)I" } : Jvm.MethodName)) ∈ lw_all := lw_g (lw_at lw_m12 74 rfl) rfl
theorem q2851 : (Jvm.Cond.selects "AcousticCamera" ({ cls := "AcousticCamera", name := "clean", desc := "(I)I" } : Jvm.MethodName) ({ cls := "AcousticCamera", name := "clean", desc := "(I)I" } : Jvm.MethodName)) ∈ lw_all := lw_g (lw_at lw_m12 75 rfl) rfl
theorem q2852 : (Jvm.Cond.code ({ cls := "AcousticCamera", name := "clean", desc := "(I)I" } : Jvm.MethodName) prog_1_method_84_code (2 : Nat) (Option.some Jvm.ClassFile.FieldType.int)) ∈ lw_all := lw_g (lw_at lw_m12 76 rfl) rfl
theorem q2853 : (Jvm.Cond.methodLink "AcousticCamera" (490 : Nat) ({ cls := "AcousticCamera$State", name := "weightSum", desc := "()I" } : Jvm.MethodName)) ∈ lw_all := lw_g (lw_at lw_m12 77 rfl) rfl
theorem q2857 : (Jvm.Cond.methodLink "AcousticCamera" (493 : Nat) ({ cls := "AcousticCamera$State", name := "clean", desc := "(I)I" } : Jvm.MethodName)) ∈ lw_all := lw_g (lw_at lw_m12 81 rfl) rfl
theorem q2866 : (Jvm.Cond.instanceMethod ({ cls := "AcousticCamera", name := "cleaned", desc := "()I" } : Jvm.MethodName)) ∈ lw_all := lw_g (lw_at lw_m12 90 rfl) rfl
theorem q2867 : (Jvm.Cond.selects "AcousticCamera" ({ cls := "AcousticCamera", name := "cleaned", desc := "()I" } : Jvm.MethodName) ({ cls := "AcousticCamera", name := "cleaned", desc := "()I" } : Jvm.MethodName)) ∈ lw_all := lw_g (lw_at lw_m12 91 rfl) rfl
theorem q2868 : (Jvm.Cond.code ({ cls := "AcousticCamera", name := "cleaned", desc := "()I" } : Jvm.MethodName) prog_1_method_85_code (1 : Nat) (Option.some Jvm.ClassFile.FieldType.int)) ∈ lw_all := lw_g (lw_at lw_m12 92 rfl) rfl
theorem q2873 : (Jvm.Cond.instanceMethod ({ cls := "AcousticCamera", name := "undo", desc := "()I" } : Jvm.MethodName)) ∈ lw_all := lw_g (lw_at lw_m12 97 rfl) rfl
theorem q2874 : (Jvm.Cond.selects "AcousticCamera" ({ cls := "AcousticCamera", name := "undo", desc := "()I" } : Jvm.MethodName) ({ cls := "AcousticCamera", name := "undo", desc := "()I" } : Jvm.MethodName)) ∈ lw_all := lw_g (lw_at lw_m12 98 rfl) rfl
theorem q2875 : (Jvm.Cond.code ({ cls := "AcousticCamera", name := "undo", desc := "()I" } : Jvm.MethodName) prog_1_method_86_code (1 : Nat) (Option.some Jvm.ClassFile.FieldType.int)) ∈ lw_all := lw_g (lw_at lw_m12 99 rfl) rfl
theorem q2876 : (Jvm.Cond.methodLink "AcousticCamera" (499 : Nat) ({ cls := "java/util/ArrayDeque", name := "isEmpty", desc := "()Z" } : Jvm.MethodName)) ∈ lw_all := lw_g (lw_at lw_m12 100 rfl) rfl
theorem q2880 : (Jvm.Cond.methodLink "AcousticCamera" (502 : Nat) ({ cls := "java/util/ArrayDeque", name := "removeLast", desc := "()Ljava/lang/Object;" } : Jvm.MethodName)) ∈ lw_all := lw_g (lw_at lw_m12 104 rfl) rfl
theorem q2895 : (Jvm.Cond.instanceMethod ({ cls := "AcousticCamera", name := "save", desc := "(I)I" } : Jvm.MethodName)) ∈ lw_all := lw_g (lw_at lw_m12 119 rfl) rfl
theorem q2896 : (Jvm.Cond.selects "AcousticCamera" ({ cls := "AcousticCamera", name := "save", desc := "(I)I" } : Jvm.MethodName) ({ cls := "AcousticCamera", name := "save", desc := "(I)I" } : Jvm.MethodName)) ∈ lw_all := lw_g (lw_at lw_m12 120 rfl) rfl
theorem q2897 : (Jvm.Cond.code ({ cls := "AcousticCamera", name := "save", desc := "(I)I" } : Jvm.MethodName) prog_1_method_88_code (2 : Nat) (Option.some Jvm.ClassFile.FieldType.int)) ∈ lw_all := lw_g (lw_at lw_m12 121 rfl) rfl
theorem q2902 : (Jvm.Cond.instanceMethod ({ cls := "AcousticCamera", name := "restore", desc := "(I)I" } : Jvm.MethodName)) ∈ lw_all := lw_g (lw_at lw_m12 126 rfl) rfl
theorem q2903 : (Jvm.Cond.selects "AcousticCamera" ({ cls := "AcousticCamera", name := "restore", desc := "(I)I" } : Jvm.MethodName) ({ cls := "AcousticCamera", name := "restore", desc := "(I)I" } : Jvm.MethodName)) ∈ lw_all := lw_g (lw_at lw_m12 127 rfl) rfl
theorem q2904 : (Jvm.Cond.code ({ cls := "AcousticCamera", name := "restore", desc := "(I)I" } : Jvm.MethodName) prog_1_method_89_code (2 : Nat) (Option.some Jvm.ClassFile.FieldType.int)) ∈ lw_all := lw_g (lw_at lw_m12 128 rfl) rfl
theorem q3664 : (Jvm.Cond.castable "AcousticCamera" "java/lang/Object") ∈ lw_tbl := lw_at lw_m15 168 rfl
theorem q144 : (Jvm.Cond.initialized "AcousticCameraModel") ∈ lw_all := lw_g (lw_at lw_m1 8 rfl) rfl
theorem q1150 : (Jvm.Cond.selects "AcousticCameraModel" ({ cls := "java/lang/Object", name := "getClass", desc := "()Ljava/lang/Class;" } : Jvm.MethodName) ({ cls := "java/lang/Object", name := "getClass", desc := "()Ljava/lang/Class;" } : Jvm.MethodName)) ∈ lw_all := lw_g (lw_at lw_m5 54 rfl) rfl
theorem q1313 : (Jvm.Cond.selects "AcousticCameraModel" ({ cls := "java/lang/Object", name := "equals", desc := "(Ljava/lang/Object;)Z" } : Jvm.MethodName) ({ cls := "java/lang/Object", name := "equals", desc := "(Ljava/lang/Object;)Z" } : Jvm.MethodName)) ∈ lw_all := lw_g (lw_at lw_m5 217 rfl) rfl
theorem q2906 : (Jvm.Cond.instantiable "AcousticCameraModel" (30 : Nat)) ∈ lw_all := lw_g (lw_at lw_m12 130 rfl) rfl
theorem q2908 : (Jvm.Cond.instanceMethod ({ cls := "AcousticCameraModel", name := "<init>", desc := "()V" } : Jvm.MethodName)) ∈ lw_all := lw_g (lw_at lw_m12 132 rfl) rfl
theorem q2909 : (Jvm.Cond.code ({ cls := "AcousticCameraModel", name := "<init>", desc := "()V" } : Jvm.MethodName) prog_15_method_1_code (1 : Nat) (Option.none : Option Jvm.ClassFile.FieldType)) ∈ lw_all := lw_g (lw_at lw_m12 133 rfl) rfl
theorem q2910 : (Jvm.Cond.methodLink "AcousticCameraModel" (1 : Nat) ({ cls := "java/lang/Object", name := "<init>", desc := "()V" } : Jvm.MethodName)) ∈ lw_all := lw_g (lw_at lw_m12 134 rfl) rfl
theorem q2911 : (Jvm.Cond.fieldLink "AcousticCameraModel" (67 : Nat) "AcousticCameraModel" "thrown" "I") ∈ lw_all := lw_g (lw_at lw_m12 135 rfl) rfl
theorem q2912 : (Jvm.Cond.fieldLink "AcousticCameraModel" (9 : Nat) "AcousticCameraModel" "buffer" "[I") ∈ lw_all := lw_g (lw_at lw_m12 136 rfl) rfl
theorem q2913 : (Jvm.Cond.fieldLink "AcousticCameraModel" (70 : Nat) "AcousticCameraModel" "buffered" "I") ∈ lw_all := lw_g (lw_at lw_m12 137 rfl) rfl
theorem q2914 : (Jvm.Cond.fieldLink "AcousticCameraModel" (80 : Nat) "AcousticCameraModel" "end" "I") ∈ lw_all := lw_g (lw_at lw_m12 138 rfl) rfl
theorem q2915 : (Jvm.Cond.fieldLink "AcousticCameraModel" (86 : Nat) "AcousticCameraModel" "next" "I") ∈ lw_all := lw_g (lw_at lw_m12 139 rfl) rfl
theorem q2916 : (Jvm.Cond.fieldLink "AcousticCameraModel" (77 : Nat) "AcousticCameraModel" "parseCode" "I") ∈ lw_all := lw_g (lw_at lw_m12 140 rfl) rfl
theorem q2917 : (Jvm.Cond.fieldLink "AcousticCameraModel" (13 : Nat) "AcousticCameraModel" "parsePlace" "I") ∈ lw_all := lw_g (lw_at lw_m12 141 rfl) rfl
theorem q2918 : (Jvm.Cond.fieldLink "AcousticCameraModel" (93 : Nat) "AcousticCameraModel" "token" "I") ∈ lw_all := lw_g (lw_at lw_m12 142 rfl) rfl
theorem q2919 : (Jvm.Cond.fieldLink "AcousticCameraModel" (83 : Nat) "AcousticCameraModel" "start" "I") ∈ lw_all := lw_g (lw_at lw_m12 143 rfl) rfl
theorem q2920 : (Jvm.Cond.fieldLink "AcousticCameraModel" (100 : Nat) "AcousticCameraModel" "value" "I") ∈ lw_all := lw_g (lw_at lw_m12 144 rfl) rfl
theorem q2921 : (Jvm.Cond.fieldLink "AcousticCameraModel" (17 : Nat) "AcousticCameraModel" "plan" "[I") ∈ lw_all := lw_g (lw_at lw_m12 145 rfl) rfl
theorem q2922 : (Jvm.Cond.fieldLink "AcousticCameraModel" (20 : Nat) "AcousticCameraModel" "newPlan" "[I") ∈ lw_all := lw_g (lw_at lw_m12 146 rfl) rfl
theorem q2923 : (Jvm.Cond.fieldLink "AcousticCameraModel" (23 : Nat) "AcousticCameraModel" "now" "[I") ∈ lw_all := lw_g (lw_at lw_m12 147 rfl) rfl
theorem q2924 : (Jvm.Cond.fieldLink "AcousticCameraModel" (26 : Nat) "AcousticCameraModel" "draft" "[I") ∈ lw_all := lw_g (lw_at lw_m12 148 rfl) rfl
theorem q2925 : (Jvm.Cond.fieldLink "AcousticCameraModel" (29 : Nat) "AcousticCameraModel" "work" "[I") ∈ lw_all := lw_g (lw_at lw_m12 149 rfl) rfl
theorem q2926 : (Jvm.Cond.fieldLink "AcousticCameraModel" (32 : Nat) "AcousticCameraModel" "history" "[I") ∈ lw_all := lw_g (lw_at lw_m12 150 rfl) rfl
theorem q2927 : (Jvm.Cond.fieldLink "AcousticCameraModel" (35 : Nat) "AcousticCameraModel" "stored" "[I") ∈ lw_all := lw_g (lw_at lw_m12 151 rfl) rfl
theorem q2928 : (Jvm.Cond.fieldLink "AcousticCameraModel" (38 : Nat) "AcousticCameraModel" "table" "[I") ∈ lw_all := lw_g (lw_at lw_m12 152 rfl) rfl
theorem q2929 : (Jvm.Cond.fieldLink "AcousticCameraModel" (41 : Nat) "AcousticCameraModel" "isStored" "[Z") ∈ lw_all := lw_g (lw_at lw_m12 153 rfl) rfl
theorem q2930 : (Jvm.Cond.fieldLink "AcousticCameraModel" (255 : Nat) "AcousticCameraModel" "undos" "I") ∈ lw_all := lw_g (lw_at lw_m12 154 rfl) rfl
theorem q2931 : (Jvm.Cond.fieldLink "AcousticCameraModel" (251 : Nat) "AcousticCameraModel" "hasCamera" "Z") ∈ lw_all := lw_g (lw_at lw_m12 155 rfl) rfl
theorem q2932 : (Jvm.Cond.fieldLink "AcousticCameraModel" (45 : Nat) "AcousticCameraModel" "point" "I") ∈ lw_all := lw_g (lw_at lw_m12 156 rfl) rfl
theorem q2933 : (Jvm.Cond.fieldLink "AcousticCameraModel" (277 : Nat) "AcousticCameraModel" "pointPeriod" "I") ∈ lw_all := lw_g (lw_at lw_m12 157 rfl) rfl
theorem q2934 : (Jvm.Cond.fieldLink "AcousticCameraModel" (48 : Nat) "AcousticCameraModel" "raw" "[I") ∈ lw_all := lw_g (lw_at lw_m12 158 rfl) rfl
theorem q2935 : (Jvm.Cond.fieldLink "AcousticCameraModel" (51 : Nat) "AcousticCameraModel" "delays" "[I") ∈ lw_all := lw_g (lw_at lw_m12 159 rfl) rfl
theorem q2936 : (Jvm.Cond.fieldLink "AcousticCameraModel" (54 : Nat) "AcousticCameraModel" "powers" "[J") ∈ lw_all := lw_g (lw_at lw_m12 160 rfl) rfl
theorem q2937 : (Jvm.Cond.fieldLink "AcousticCameraModel" (58 : Nat) "AcousticCameraModel" "scores" "[J") ∈ lw_all := lw_g (lw_at lw_m12 161 rfl) rfl
theorem q2938 : (Jvm.Cond.fieldLink "AcousticCameraModel" (61 : Nat) "AcousticCameraModel" "page" "[I") ∈ lw_all := lw_g (lw_at lw_m12 162 rfl) rfl
theorem q2939 : (Jvm.Cond.fieldLink "AcousticCameraModel" (439 : Nat) "AcousticCameraModel" "pageSize" "I") ∈ lw_all := lw_g (lw_at lw_m12 163 rfl) rfl
theorem q2940 : (Jvm.Cond.fieldLink "AcousticCameraModel" (64 : Nat) "AcousticCameraModel" "beams" "[I") ∈ lw_all := lw_g (lw_at lw_m12 164 rfl) rfl
theorem q2941 : (Jvm.Cond.lays "AcousticCameraModel" "AcousticCameraModel" "thrown" "I") ∈ lw_all := lw_g (lw_at lw_m12 165 rfl) rfl
theorem q2942 : (Jvm.Cond.soleField "AcousticCameraModel" "thrown") ∈ lw_all := lw_g (lw_at lw_m12 166 rfl) rfl
theorem q2943 : (Jvm.Cond.laysFinal "AcousticCameraModel" "AcousticCameraModel" "buffer" "[I") ∈ lw_all := lw_g (lw_at lw_m12 167 rfl) rfl
theorem q2944 : (Jvm.Cond.soleField "AcousticCameraModel" "buffer") ∈ lw_all := lw_g (lw_at lw_m12 168 rfl) rfl
theorem q2945 : (Jvm.Cond.lays "AcousticCameraModel" "AcousticCameraModel" "buffered" "I") ∈ lw_all := lw_g (lw_at lw_m12 169 rfl) rfl
theorem q2946 : (Jvm.Cond.soleField "AcousticCameraModel" "buffered") ∈ lw_all := lw_g (lw_at lw_m12 170 rfl) rfl
theorem q2947 : (Jvm.Cond.lays "AcousticCameraModel" "AcousticCameraModel" "end" "I") ∈ lw_all := lw_g (lw_at lw_m12 171 rfl) rfl
theorem q2948 : (Jvm.Cond.soleField "AcousticCameraModel" "end") ∈ lw_all := lw_g (lw_at lw_m12 172 rfl) rfl
theorem q2949 : (Jvm.Cond.lays "AcousticCameraModel" "AcousticCameraModel" "next" "I") ∈ lw_all := lw_g (lw_at lw_m12 173 rfl) rfl
theorem q2950 : (Jvm.Cond.soleField "AcousticCameraModel" "next") ∈ lw_all := lw_g (lw_at lw_m12 174 rfl) rfl
theorem q2951 : (Jvm.Cond.lays "AcousticCameraModel" "AcousticCameraModel" "parseCode" "I") ∈ lw_all := lw_g (lw_at lw_m12 175 rfl) rfl
theorem q2952 : (Jvm.Cond.soleField "AcousticCameraModel" "parseCode") ∈ lw_all := lw_g (lw_at lw_m12 176 rfl) rfl
theorem q2953 : (Jvm.Cond.lays "AcousticCameraModel" "AcousticCameraModel" "parsePlace" "I") ∈ lw_all := lw_g (lw_at lw_m12 177 rfl) rfl
theorem q2954 : (Jvm.Cond.soleField "AcousticCameraModel" "parsePlace") ∈ lw_all := lw_g (lw_at lw_m12 178 rfl) rfl
theorem q2955 : (Jvm.Cond.lays "AcousticCameraModel" "AcousticCameraModel" "token" "I") ∈ lw_all := lw_g (lw_at lw_m12 179 rfl) rfl
theorem q2956 : (Jvm.Cond.soleField "AcousticCameraModel" "token") ∈ lw_all := lw_g (lw_at lw_m12 180 rfl) rfl
theorem q2957 : (Jvm.Cond.lays "AcousticCameraModel" "AcousticCameraModel" "start" "I") ∈ lw_all := lw_g (lw_at lw_m12 181 rfl) rfl
theorem q2958 : (Jvm.Cond.soleField "AcousticCameraModel" "start") ∈ lw_all := lw_g (lw_at lw_m12 182 rfl) rfl
theorem q2959 : (Jvm.Cond.lays "AcousticCameraModel" "AcousticCameraModel" "value" "I") ∈ lw_all := lw_g (lw_at lw_m12 183 rfl) rfl
theorem q2960 : (Jvm.Cond.soleField "AcousticCameraModel" "value") ∈ lw_all := lw_g (lw_at lw_m12 184 rfl) rfl
theorem q2961 : (Jvm.Cond.laysFinal "AcousticCameraModel" "AcousticCameraModel" "plan" "[I") ∈ lw_all := lw_g (lw_at lw_m12 185 rfl) rfl
theorem q2962 : (Jvm.Cond.soleField "AcousticCameraModel" "plan") ∈ lw_all := lw_g (lw_at lw_m12 186 rfl) rfl
theorem q2963 : (Jvm.Cond.laysFinal "AcousticCameraModel" "AcousticCameraModel" "newPlan" "[I") ∈ lw_all := lw_g (lw_at lw_m12 187 rfl) rfl
theorem q2964 : (Jvm.Cond.soleField "AcousticCameraModel" "newPlan") ∈ lw_all := lw_g (lw_at lw_m12 188 rfl) rfl
theorem q2965 : (Jvm.Cond.laysFinal "AcousticCameraModel" "AcousticCameraModel" "now" "[I") ∈ lw_all := lw_g (lw_at lw_m12 189 rfl) rfl
theorem q2966 : (Jvm.Cond.soleField "AcousticCameraModel" "now") ∈ lw_all := lw_g (lw_at lw_m12 190 rfl) rfl
theorem q2967 : (Jvm.Cond.laysFinal "AcousticCameraModel" "AcousticCameraModel" "draft" "[I") ∈ lw_all := lw_g (lw_at lw_m12 191 rfl) rfl
theorem q2968 : (Jvm.Cond.soleField "AcousticCameraModel" "draft") ∈ lw_all := lw_g (lw_at lw_m12 192 rfl) rfl
theorem q2969 : (Jvm.Cond.laysFinal "AcousticCameraModel" "AcousticCameraModel" "work" "[I") ∈ lw_all := lw_g (lw_at lw_m12 193 rfl) rfl
theorem q2970 : (Jvm.Cond.soleField "AcousticCameraModel" "work") ∈ lw_all := lw_g (lw_at lw_m12 194 rfl) rfl
theorem q2971 : (Jvm.Cond.laysFinal "AcousticCameraModel" "AcousticCameraModel" "history" "[I") ∈ lw_all := lw_g (lw_at lw_m12 195 rfl) rfl
theorem q2972 : (Jvm.Cond.soleField "AcousticCameraModel" "history") ∈ lw_all := lw_g (lw_at lw_m12 196 rfl) rfl
theorem q2973 : (Jvm.Cond.laysFinal "AcousticCameraModel" "AcousticCameraModel" "stored" "[I") ∈ lw_all := lw_g (lw_at lw_m12 197 rfl) rfl
theorem q2974 : (Jvm.Cond.soleField "AcousticCameraModel" "stored") ∈ lw_all := lw_g (lw_at lw_m12 198 rfl) rfl
theorem q2975 : (Jvm.Cond.laysFinal "AcousticCameraModel" "AcousticCameraModel" "table" "[I") ∈ lw_all := lw_g (lw_at lw_m12 199 rfl) rfl
theorem q2976 : (Jvm.Cond.soleField "AcousticCameraModel" "table") ∈ lw_all := lw_g (lw_at lw_m12 200 rfl) rfl
theorem q2977 : (Jvm.Cond.laysFinal "AcousticCameraModel" "AcousticCameraModel" "isStored" "[Z") ∈ lw_all := lw_g (lw_at lw_m12 201 rfl) rfl
theorem q2978 : (Jvm.Cond.soleField "AcousticCameraModel" "isStored") ∈ lw_all := lw_g (lw_at lw_m12 202 rfl) rfl
theorem q2979 : (Jvm.Cond.lays "AcousticCameraModel" "AcousticCameraModel" "undos" "I") ∈ lw_all := lw_g (lw_at lw_m12 203 rfl) rfl
theorem q2980 : (Jvm.Cond.soleField "AcousticCameraModel" "undos") ∈ lw_all := lw_g (lw_at lw_m12 204 rfl) rfl
theorem q2981 : (Jvm.Cond.lays "AcousticCameraModel" "AcousticCameraModel" "hasCamera" "Z") ∈ lw_all := lw_g (lw_at lw_m12 205 rfl) rfl
theorem q2982 : (Jvm.Cond.soleField "AcousticCameraModel" "hasCamera") ∈ lw_all := lw_g (lw_at lw_m12 206 rfl) rfl
theorem q2983 : (Jvm.Cond.lays "AcousticCameraModel" "AcousticCameraModel" "point" "I") ∈ lw_all := lw_g (lw_at lw_m12 207 rfl) rfl
theorem q2984 : (Jvm.Cond.soleField "AcousticCameraModel" "point") ∈ lw_all := lw_g (lw_at lw_m12 208 rfl) rfl
theorem q2985 : (Jvm.Cond.lays "AcousticCameraModel" "AcousticCameraModel" "pointPeriod" "I") ∈ lw_all := lw_g (lw_at lw_m12 209 rfl) rfl
theorem q2986 : (Jvm.Cond.soleField "AcousticCameraModel" "pointPeriod") ∈ lw_all := lw_g (lw_at lw_m12 210 rfl) rfl
theorem q2987 : (Jvm.Cond.laysFinal "AcousticCameraModel" "AcousticCameraModel" "raw" "[I") ∈ lw_all := lw_g (lw_at lw_m12 211 rfl) rfl
theorem q2988 : (Jvm.Cond.soleField "AcousticCameraModel" "raw") ∈ lw_all := lw_g (lw_at lw_m12 212 rfl) rfl
theorem q2989 : (Jvm.Cond.laysFinal "AcousticCameraModel" "AcousticCameraModel" "delays" "[I") ∈ lw_all := lw_g (lw_at lw_m12 213 rfl) rfl
theorem q2990 : (Jvm.Cond.soleField "AcousticCameraModel" "delays") ∈ lw_all := lw_g (lw_at lw_m12 214 rfl) rfl
theorem q2991 : (Jvm.Cond.laysFinal "AcousticCameraModel" "AcousticCameraModel" "powers" "[J") ∈ lw_all := lw_g (lw_at lw_m12 215 rfl) rfl
theorem q2992 : (Jvm.Cond.soleField "AcousticCameraModel" "powers") ∈ lw_all := lw_g (lw_at lw_m12 216 rfl) rfl
theorem q2993 : (Jvm.Cond.laysFinal "AcousticCameraModel" "AcousticCameraModel" "scores" "[J") ∈ lw_all := lw_g (lw_at lw_m12 217 rfl) rfl
theorem q2994 : (Jvm.Cond.soleField "AcousticCameraModel" "scores") ∈ lw_all := lw_g (lw_at lw_m12 218 rfl) rfl
theorem q2995 : (Jvm.Cond.laysFinal "AcousticCameraModel" "AcousticCameraModel" "page" "[I") ∈ lw_all := lw_g (lw_at lw_m12 219 rfl) rfl
theorem q2996 : (Jvm.Cond.soleField "AcousticCameraModel" "page") ∈ lw_all := lw_g (lw_at lw_m12 220 rfl) rfl
theorem q2997 : (Jvm.Cond.lays "AcousticCameraModel" "AcousticCameraModel" "pageSize" "I") ∈ lw_all := lw_g (lw_at lw_m12 221 rfl) rfl
theorem q2998 : (Jvm.Cond.soleField "AcousticCameraModel" "pageSize") ∈ lw_all := lw_g (lw_at lw_m12 222 rfl) rfl
theorem q2999 : (Jvm.Cond.laysFinal "AcousticCameraModel" "AcousticCameraModel" "beams" "[I") ∈ lw_all := lw_g (lw_at lw_m12 223 rfl) rfl
theorem q3000 : (Jvm.Cond.soleField "AcousticCameraModel" "beams") ∈ lw_all := lw_g (lw_at lw_m12 224 rfl) rfl
theorem q3001 : (Jvm.Cond.superclass "AcousticCameraModel" "java/lang/Object") ∈ lw_all := lw_g (lw_at lw_m12 225 rfl) rfl
theorem q3004 : (Jvm.Cond.instanceMethod ({ cls := "AcousticCameraModel", name := "thrown", desc := "()I" } : Jvm.MethodName)) ∈ lw_all := lw_g (lw_at lw_m12 228 rfl) rfl
theorem q3005 : (Jvm.Cond.selects "AcousticCameraModel" ({ cls := "AcousticCameraModel", name := "thrown", desc := "()I" } : Jvm.MethodName) ({ cls := "AcousticCameraModel", name := "thrown", desc := "()I" } : Jvm.MethodName)) ∈ lw_all := lw_g (lw_at lw_m12 229 rfl) rfl
theorem q3006 : (Jvm.Cond.code ({ cls := "AcousticCameraModel", name := "thrown", desc := "()I" } : Jvm.MethodName) prog_15_method_2_code (1 : Nat) (Option.some Jvm.ClassFile.FieldType.int)) ∈ lw_all := lw_g (lw_at lw_m12 230 rfl) rfl
theorem q3008 : (Jvm.Cond.instanceMethod ({ cls := "AcousticCameraModel", name := "append", desc := "(IIIII)I" } : Jvm.MethodName)) ∈ lw_all := lw_g (lw_at lw_m12 232 rfl) rfl
theorem q3009 : (Jvm.Cond.selects "AcousticCameraModel" ({ cls := "AcousticCameraModel", name := "append", desc := "(IIIII)I" } : Jvm.MethodName) ({ cls := "AcousticCameraModel", name := "append", desc := "(IIIII)I" } : Jvm.MethodName)) ∈ lw_all := lw_g (lw_at lw_m12 233 rfl) rfl
theorem q3010 : (Jvm.Cond.code ({ cls := "AcousticCameraModel", name := "append", desc := "(IIIII)I" } : Jvm.MethodName) prog_15_method_6_code (6 : Nat) (Option.some Jvm.ClassFile.FieldType.int)) ∈ lw_all := lw_g (lw_at lw_m12 234 rfl) rfl
theorem q3011 : (Jvm.Cond.methodLink "AcousticCameraModel" (73 : Nat) ({ cls := "AcousticCameraModel", name := "four", desc := "(I)V" } : Jvm.MethodName)) ∈ lw_all := lw_g (lw_at lw_m12 235 rfl) rfl
theorem q3012 : (Jvm.Cond.privateMethod ({ cls := "AcousticCameraModel", name := "four", desc := "(I)V" } : Jvm.MethodName)) ∈ lw_tbl := lw_at lw_m12 236 rfl
theorem q3013 : (Jvm.Cond.instanceMethod ({ cls := "AcousticCameraModel", name := "four", desc := "(I)V" } : Jvm.MethodName)) ∈ lw_all := lw_g (lw_at lw_m12 237 rfl) rfl
theorem q3014 : (Jvm.Cond.code ({ cls := "AcousticCameraModel", name := "four", desc := "(I)V" } : Jvm.MethodName) prog_15_method_5_code (3 : Nat) (Option.none : Option Jvm.ClassFile.FieldType)) ∈ lw_all := lw_g (lw_at lw_m12 238 rfl) rfl
theorem q3016 : (Jvm.Cond.instanceMethod ({ cls := "AcousticCameraModel", name := "buffered", desc := "()I" } : Jvm.MethodName)) ∈ lw_all := lw_g (lw_at lw_m13 0 rfl) rfl
theorem q3017 : (Jvm.Cond.selects "AcousticCameraModel" ({ cls := "AcousticCameraModel", name := "buffered", desc := "()I" } : Jvm.MethodName) ({ cls := "AcousticCameraModel", name := "buffered", desc := "()I" } : Jvm.MethodName)) ∈ lw_all := lw_g (lw_at lw_m13 1 rfl) rfl
theorem q3018 : (Jvm.Cond.code ({ cls := "AcousticCameraModel", name := "buffered", desc := "()I" } : Jvm.MethodName) prog_15_method_7_code (1 : Nat) (Option.some Jvm.ClassFile.FieldType.int)) ∈ lw_all := lw_g (lw_at lw_m13 2 rfl) rfl
theorem q3020 : (Jvm.Cond.instanceMethod ({ cls := "AcousticCameraModel", name := "parseError", desc := "()I" } : Jvm.MethodName)) ∈ lw_all := lw_g (lw_at lw_m13 4 rfl) rfl
theorem q3021 : (Jvm.Cond.selects "AcousticCameraModel" ({ cls := "AcousticCameraModel", name := "parseError", desc := "()I" } : Jvm.MethodName) ({ cls := "AcousticCameraModel", name := "parseError", desc := "()I" } : Jvm.MethodName)) ∈ lw_all := lw_g (lw_at lw_m13 5 rfl) rfl
theorem q3022 : (Jvm.Cond.code ({ cls := "AcousticCameraModel", name := "parseError", desc := "()I" } : Jvm.MethodName) prog_15_method_8_code (1 : Nat) (Option.some Jvm.ClassFile.FieldType.int)) ∈ lw_all := lw_g (lw_at lw_m13 6 rfl) rfl
theorem q3024 : (Jvm.Cond.instanceMethod ({ cls := "AcousticCameraModel", name := "errorPosition", desc := "()I" } : Jvm.MethodName)) ∈ lw_all := lw_g (lw_at lw_m13 8 rfl) rfl
theorem q3025 : (Jvm.Cond.selects "AcousticCameraModel" ({ cls := "AcousticCameraModel", name := "errorPosition", desc := "()I" } : Jvm.MethodName) ({ cls := "AcousticCameraModel", name := "errorPosition", desc := "()I" } : Jvm.MethodName)) ∈ lw_all := lw_g (lw_at lw_m13 9 rfl) rfl
theorem q3026 : (Jvm.Cond.code ({ cls := "AcousticCameraModel", name := "errorPosition", desc := "()I" } : Jvm.MethodName) prog_15_method_9_code (1 : Nat) (Option.some Jvm.ClassFile.FieldType.int)) ∈ lw_all := lw_g (lw_at lw_m13 10 rfl) rfl
theorem q3028 : (Jvm.Cond.instanceMethod ({ cls := "AcousticCameraModel", name := "load", desc := "(I)I" } : Jvm.MethodName)) ∈ lw_all := lw_g (lw_at lw_m13 12 rfl) rfl
theorem q3029 : (Jvm.Cond.selects "AcousticCameraModel" ({ cls := "AcousticCameraModel", name := "load", desc := "(I)I" } : Jvm.MethodName) ({ cls := "AcousticCameraModel", name := "load", desc := "(I)I" } : Jvm.MethodName)) ∈ lw_all := lw_g (lw_at lw_m13 13 rfl) rfl
theorem q3030 : (Jvm.Cond.code ({ cls := "AcousticCameraModel", name := "load", desc := "(I)I" } : Jvm.MethodName) prog_15_method_35_code (4 : Nat) (Option.some Jvm.ClassFile.FieldType.int)) ∈ lw_all := lw_g (lw_at lw_m13 14 rfl) rfl
theorem q3031 : (Jvm.Cond.methodLink "AcousticCameraModel" (96 : Nat) ({ cls := "AcousticCameraModel", name := "in", desc := "(III)Z" } : Jvm.MethodName)) ∈ lw_all := lw_g (lw_at lw_m13 15 rfl) rfl
theorem q3032 : (Jvm.Cond.static ({ cls := "AcousticCameraModel", name := "in", desc := "(III)Z" } : Jvm.MethodName)) ∈ lw_all := lw_g (lw_at lw_m13 16 rfl) rfl
theorem q3033 : (Jvm.Cond.code ({ cls := "AcousticCameraModel", name := "in", desc := "(III)Z" } : Jvm.MethodName) prog_15_method_3_code (3 : Nat) (Option.some Jvm.ClassFile.FieldType.boolean)) ∈ lw_all := lw_g (lw_at lw_m13 17 rfl) rfl
theorem q3034 : (Jvm.Cond.methodLink "AcousticCameraModel" (227 : Nat) ({ cls := "AcousticCameraModel", name := "throwsAt", desc := "(I)I" } : Jvm.MethodName)) ∈ lw_all := lw_g (lw_at lw_m13 18 rfl) rfl
theorem q3035 : (Jvm.Cond.privateMethod ({ cls := "AcousticCameraModel", name := "throwsAt", desc := "(I)I" } : Jvm.MethodName)) ∈ lw_tbl := lw_at lw_m13 19 rfl
theorem q3036 : (Jvm.Cond.instanceMethod ({ cls := "AcousticCameraModel", name := "throwsAt", desc := "(I)I" } : Jvm.MethodName)) ∈ lw_all := lw_g (lw_at lw_m13 20 rfl) rfl
theorem q3037 : (Jvm.Cond.code ({ cls := "AcousticCameraModel", name := "throwsAt", desc := "(I)I" } : Jvm.MethodName) prog_15_method_4_code (2 : Nat) (Option.some Jvm.ClassFile.FieldType.int)) ∈ lw_all := lw_g (lw_at lw_m13 21 rfl) rfl
theorem q3038 : (Jvm.Cond.methodLink "AcousticCameraModel" (230 : Nat) ({ cls := "AcousticCameraModel", name := "readText", desc := "()V" } : Jvm.MethodName)) ∈ lw_all := lw_g (lw_at lw_m13 22 rfl) rfl
theorem q3039 : (Jvm.Cond.privateMethod ({ cls := "AcousticCameraModel", name := "readText", desc := "()V" } : Jvm.MethodName)) ∈ lw_tbl := lw_at lw_m13 23 rfl
theorem q3040 : (Jvm.Cond.instanceMethod ({ cls := "AcousticCameraModel", name := "readText", desc := "()V" } : Jvm.MethodName)) ∈ lw_all := lw_g (lw_at lw_m13 24 rfl) rfl
theorem q3041 : (Jvm.Cond.code ({ cls := "AcousticCameraModel", name := "readText", desc := "()V" } : Jvm.MethodName) prog_15_method_34_code (2 : Nat) (Option.none : Option Jvm.ClassFile.FieldType)) ∈ lw_all := lw_g (lw_at lw_m13 25 rfl) rfl
theorem q3042 : (Jvm.Cond.methodLink "AcousticCameraModel" (121 : Nat) ({ cls := "AcousticCameraModel", name := "nextToken", desc := "()V" } : Jvm.MethodName)) ∈ lw_all := lw_g (lw_at lw_m13 26 rfl) rfl
theorem q3043 : (Jvm.Cond.privateMethod ({ cls := "AcousticCameraModel", name := "nextToken", desc := "()V" } : Jvm.MethodName)) ∈ lw_tbl := lw_at lw_m13 27 rfl
theorem q3044 : (Jvm.Cond.instanceMethod ({ cls := "AcousticCameraModel", name := "nextToken", desc := "()V" } : Jvm.MethodName)) ∈ lw_all := lw_g (lw_at lw_m13 28 rfl) rfl
theorem q3045 : (Jvm.Cond.code ({ cls := "AcousticCameraModel", name := "nextToken", desc := "()V" } : Jvm.MethodName) prog_15_method_13_code (1 : Nat) (Option.none : Option Jvm.ClassFile.FieldType)) ∈ lw_all := lw_g (lw_at lw_m13 29 rfl) rfl
theorem q3046 : (Jvm.Cond.methodLink "AcousticCameraModel" (89 : Nat) ({ cls := "AcousticCameraModel", name := "byteAt", desc := "(I)I" } : Jvm.MethodName)) ∈ lw_all := lw_g (lw_at lw_m13 30 rfl) rfl
theorem q3047 : (Jvm.Cond.privateMethod ({ cls := "AcousticCameraModel", name := "byteAt", desc := "(I)I" } : Jvm.MethodName)) ∈ lw_tbl := lw_at lw_m13 31 rfl
theorem q3048 : (Jvm.Cond.instanceMethod ({ cls := "AcousticCameraModel", name := "byteAt", desc := "(I)I" } : Jvm.MethodName)) ∈ lw_all := lw_g (lw_at lw_m13 32 rfl) rfl
theorem q3049 : (Jvm.Cond.code ({ cls := "AcousticCameraModel", name := "byteAt", desc := "(I)I" } : Jvm.MethodName) prog_15_method_10_code (2 : Nat) (Option.some Jvm.ClassFile.FieldType.int)) ∈ lw_all := lw_g (lw_at lw_m13 33 rfl) rfl
theorem q3050 : (Jvm.Cond.methodLink "AcousticCameraModel" (103 : Nat) ({ cls := "AcousticCameraModel", name := "isSign", desc := "(I)Z" } : Jvm.MethodName)) ∈ lw_all := lw_g (lw_at lw_m13 34 rfl) rfl
theorem q3051 : (Jvm.Cond.static ({ cls := "AcousticCameraModel", name := "isSign", desc := "(I)Z" } : Jvm.MethodName)) ∈ lw_all := lw_g (lw_at lw_m13 35 rfl) rfl
theorem q3052 : (Jvm.Cond.code ({ cls := "AcousticCameraModel", name := "isSign", desc := "(I)Z" } : Jvm.MethodName) prog_15_method_12_code (1 : Nat) (Option.some Jvm.ClassFile.FieldType.boolean)) ∈ lw_all := lw_g (lw_at lw_m13 36 rfl) rfl
theorem q3053 : (Jvm.Cond.methodLink "AcousticCameraModel" (221 : Nat) ({ cls := "AcousticCameraModel", name := "readFirst", desc := "()V" } : Jvm.MethodName)) ∈ lw_all := lw_g (lw_at lw_m13 37 rfl) rfl
theorem q3054 : (Jvm.Cond.privateMethod ({ cls := "AcousticCameraModel", name := "readFirst", desc := "()V" } : Jvm.MethodName)) ∈ lw_tbl := lw_at lw_m13 38 rfl
theorem q3055 : (Jvm.Cond.instanceMethod ({ cls := "AcousticCameraModel", name := "readFirst", desc := "()V" } : Jvm.MethodName)) ∈ lw_all := lw_g (lw_at lw_m13 39 rfl) rfl
theorem q3056 : (Jvm.Cond.code ({ cls := "AcousticCameraModel", name := "readFirst", desc := "()V" } : Jvm.MethodName) prog_15_method_22_code (1 : Nat) (Option.none : Option Jvm.ClassFile.FieldType)) ∈ lw_all := lw_g (lw_at lw_m13 40 rfl) rfl
theorem q3057 : (Jvm.Cond.stringRef "AcousticCameraModel" (144 : Nat) "camera") ∈ lw_tbl := lw_at lw_m13 41 rfl
theorem q3058 : (Jvm.Cond.methodLink "AcousticCameraModel" (134 : Nat) ({ cls := "AcousticCameraModel", name := "keyword", desc := "(Ljava/lang/String;)V" } : Jvm.MethodName)) ∈ lw_all := lw_g (lw_at lw_m13 42 rfl) rfl
theorem q3059 : (Jvm.Cond.privateMethod ({ cls := "AcousticCameraModel", name := "keyword", desc := "(Ljava/lang/String;)V" } : Jvm.MethodName)) ∈ lw_tbl := lw_at lw_m13 43 rfl
theorem q3060 : (Jvm.Cond.instanceMethod ({ cls := "AcousticCameraModel", name := "keyword", desc := "(Ljava/lang/String;)V" } : Jvm.MethodName)) ∈ lw_all := lw_g (lw_at lw_m13 44 rfl) rfl
theorem q3061 : (Jvm.Cond.code ({ cls := "AcousticCameraModel", name := "keyword", desc := "(Ljava/lang/String;)V" } : Jvm.MethodName) prog_15_method_17_code (2 : Nat) (Option.none : Option Jvm.ClassFile.FieldType)) ∈ lw_all := lw_g (lw_at lw_m13 45 rfl) rfl
theorem q3062 : (Jvm.Cond.methodLink "AcousticCameraModel" (124 : Nat) ({ cls := "AcousticCameraModel", name := "takes", desc := "(Ljava/lang/String;)Z" } : Jvm.MethodName)) ∈ lw_all := lw_g (lw_at lw_m13 46 rfl) rfl
theorem q3063 : (Jvm.Cond.privateMethod ({ cls := "AcousticCameraModel", name := "takes", desc := "(Ljava/lang/String;)Z" } : Jvm.MethodName)) ∈ lw_tbl := lw_at lw_m13 47 rfl
theorem q3064 : (Jvm.Cond.instanceMethod ({ cls := "AcousticCameraModel", name := "takes", desc := "(Ljava/lang/String;)Z" } : Jvm.MethodName)) ∈ lw_all := lw_g (lw_at lw_m13 48 rfl) rfl
theorem q3065 : (Jvm.Cond.code ({ cls := "AcousticCameraModel", name := "takes", desc := "(Ljava/lang/String;)Z" } : Jvm.MethodName) prog_15_method_16_code (3 : Nat) (Option.some Jvm.ClassFile.FieldType.boolean)) ∈ lw_all := lw_g (lw_at lw_m13 49 rfl) rfl
theorem q3066 : (Jvm.Cond.methodLink "AcousticCameraModel" (117 : Nat) ({ cls := "AcousticCameraModel", name := "isWord", desc := "(Ljava/lang/String;)Z" } : Jvm.MethodName)) ∈ lw_all := lw_g (lw_at lw_m13 50 rfl) rfl
theorem q3067 : (Jvm.Cond.privateMethod ({ cls := "AcousticCameraModel", name := "isWord", desc := "(Ljava/lang/String;)Z" } : Jvm.MethodName)) ∈ lw_tbl := lw_at lw_m13 51 rfl
theorem q3068 : (Jvm.Cond.instanceMethod ({ cls := "AcousticCameraModel", name := "isWord", desc := "(Ljava/lang/String;)Z" } : Jvm.MethodName)) ∈ lw_all := lw_g (lw_at lw_m13 52 rfl) rfl
theorem q3069 : (Jvm.Cond.code ({ cls := "AcousticCameraModel", name := "isWord", desc := "(Ljava/lang/String;)Z" } : Jvm.MethodName) prog_15_method_15_code (3 : Nat) (Option.some Jvm.ClassFile.FieldType.boolean)) ∈ lw_all := lw_g (lw_at lw_m13 53 rfl) rfl
theorem q3070 : (Jvm.Cond.methodLink "AcousticCameraModel" (107 : Nat) ({ cls := "java/lang/String", name := "length", desc := "()I" } : Jvm.MethodName)) ∈ lw_all := lw_g (lw_at lw_m13 54 rfl) rfl
theorem q3071 : (Jvm.Cond.methodLink "AcousticCameraModel" (113 : Nat) ({ cls := "java/lang/String", name := "charAt", desc := "(I)C" } : Jvm.MethodName)) ∈ lw_all := lw_g (lw_at lw_m13 55 rfl) rfl
theorem q3082 : (Jvm.Cond.methodLink "AcousticCameraModel" (127 : Nat) ({ cls := "AcousticCameraModel", name := "faults", desc := "(I)V" } : Jvm.MethodName)) ∈ lw_all := lw_g (lw_at lw_m13 66 rfl) rfl
theorem q3083 : (Jvm.Cond.privateMethod ({ cls := "AcousticCameraModel", name := "faults", desc := "(I)V" } : Jvm.MethodName)) ∈ lw_tbl := lw_at lw_m13 67 rfl
theorem q3084 : (Jvm.Cond.instanceMethod ({ cls := "AcousticCameraModel", name := "faults", desc := "(I)V" } : Jvm.MethodName)) ∈ lw_all := lw_g (lw_at lw_m13 68 rfl) rfl
theorem q3085 : (Jvm.Cond.code ({ cls := "AcousticCameraModel", name := "faults", desc := "(I)V" } : Jvm.MethodName) prog_15_method_11_code (2 : Nat) (Option.none : Option Jvm.ClassFile.FieldType)) ∈ lw_all := lw_g (lw_at lw_m13 69 rfl) rfl
theorem q3086 : (Jvm.Cond.stringRef "AcousticCameraModel" (146 : Nat) "distance") ∈ lw_tbl := lw_at lw_m13 70 rfl
theorem q3087 : (Jvm.Cond.methodLink "AcousticCameraModel" (148 : Nat) ({ cls := "AcousticCameraModel", name := "gauge", desc := "(Ljava/lang/String;II)I" } : Jvm.MethodName)) ∈ lw_all := lw_g (lw_at lw_m13 71 rfl) rfl
theorem q3088 : (Jvm.Cond.privateMethod ({ cls := "AcousticCameraModel", name := "gauge", desc := "(Ljava/lang/String;II)I" } : Jvm.MethodName)) ∈ lw_tbl := lw_at lw_m13 72 rfl
theorem q3089 : (Jvm.Cond.instanceMethod ({ cls := "AcousticCameraModel", name := "gauge", desc := "(Ljava/lang/String;II)I" } : Jvm.MethodName)) ∈ lw_all := lw_g (lw_at lw_m13 73 rfl) rfl
theorem q3090 : (Jvm.Cond.code ({ cls := "AcousticCameraModel", name := "gauge", desc := "(Ljava/lang/String;II)I" } : Jvm.MethodName) prog_15_method_20_code (4 : Nat) (Option.some Jvm.ClassFile.FieldType.int)) ∈ lw_all := lw_g (lw_at lw_m13 74 rfl) rfl
theorem q3091 : (Jvm.Cond.methodLink "AcousticCameraModel" (138 : Nat) ({ cls := "AcousticCameraModel", name := "number", desc := "(II)I" } : Jvm.MethodName)) ∈ lw_all := lw_g (lw_at lw_m13 75 rfl) rfl
theorem q3092 : (Jvm.Cond.privateMethod ({ cls := "AcousticCameraModel", name := "number", desc := "(II)I" } : Jvm.MethodName)) ∈ lw_tbl := lw_at lw_m13 76 rfl
theorem q3093 : (Jvm.Cond.instanceMethod ({ cls := "AcousticCameraModel", name := "number", desc := "(II)I" } : Jvm.MethodName)) ∈ lw_all := lw_g (lw_at lw_m13 77 rfl) rfl
theorem q3094 : (Jvm.Cond.code ({ cls := "AcousticCameraModel", name := "number", desc := "(II)I" } : Jvm.MethodName) prog_15_method_19_code (4 : Nat) (Option.some Jvm.ClassFile.FieldType.int)) ∈ lw_all := lw_g (lw_at lw_m13 78 rfl) rfl
theorem q3095 : (Jvm.Cond.methodLink "AcousticCameraModel" (130 : Nat) ({ cls := "AcousticCameraModel", name := "look", desc := "(II)I" } : Jvm.MethodName)) ∈ lw_all := lw_g (lw_at lw_m13 79 rfl) rfl
theorem q3096 : (Jvm.Cond.privateMethod ({ cls := "AcousticCameraModel", name := "look", desc := "(II)I" } : Jvm.MethodName)) ∈ lw_tbl := lw_at lw_m13 80 rfl
theorem q3097 : (Jvm.Cond.instanceMethod ({ cls := "AcousticCameraModel", name := "look", desc := "(II)I" } : Jvm.MethodName)) ∈ lw_all := lw_g (lw_at lw_m13 81 rfl) rfl
theorem q3098 : (Jvm.Cond.code ({ cls := "AcousticCameraModel", name := "look", desc := "(II)I" } : Jvm.MethodName) prog_15_method_18_code (3 : Nat) (Option.some Jvm.ClassFile.FieldType.int)) ∈ lw_all := lw_g (lw_at lw_m13 82 rfl) rfl
theorem q3099 : (Jvm.Cond.stringRef "AcousticCameraModel" (152 : Nat) "step") ∈ lw_tbl := lw_at lw_m13 83 rfl
theorem q3100 : (Jvm.Cond.stringRef "AcousticCameraModel" (154 : Nat) "samples") ∈ lw_tbl := lw_at lw_m13 84 rfl
theorem q3101 : (Jvm.Cond.stringRef "AcousticCameraModel" (156 : Nat) "limit") ∈ lw_tbl := lw_at lw_m13 85 rfl
theorem q3102 : (Jvm.Cond.methodLink "AcousticCameraModel" (141 : Nat) ({ cls := "AcousticCameraModel", name := "isSignHere", desc := "(I)Z" } : Jvm.MethodName)) ∈ lw_all := lw_g (lw_at lw_m13 86 rfl) rfl
theorem q3103 : (Jvm.Cond.privateMethod ({ cls := "AcousticCameraModel", name := "isSignHere", desc := "(I)Z" } : Jvm.MethodName)) ∈ lw_tbl := lw_at lw_m13 87 rfl
theorem q3104 : (Jvm.Cond.instanceMethod ({ cls := "AcousticCameraModel", name := "isSignHere", desc := "(I)Z" } : Jvm.MethodName)) ∈ lw_all := lw_g (lw_at lw_m13 88 rfl) rfl
theorem q3105 : (Jvm.Cond.code ({ cls := "AcousticCameraModel", name := "isSignHere", desc := "(I)Z" } : Jvm.MethodName) prog_15_method_14_code (2 : Nat) (Option.some Jvm.ClassFile.FieldType.boolean)) ∈ lw_all := lw_g (lw_at lw_m13 89 rfl) rfl
theorem q3106 : (Jvm.Cond.methodLink "AcousticCameraModel" (224 : Nat) ({ cls := "AcousticCameraModel", name := "readLine", desc := "()V" } : Jvm.MethodName)) ∈ lw_all := lw_g (lw_at lw_m13 90 rfl) rfl
theorem q3107 : (Jvm.Cond.privateMethod ({ cls := "AcousticCameraModel", name := "readLine", desc := "()V" } : Jvm.MethodName)) ∈ lw_tbl := lw_at lw_m13 91 rfl
theorem q3108 : (Jvm.Cond.instanceMethod ({ cls := "AcousticCameraModel", name := "readLine", desc := "()V" } : Jvm.MethodName)) ∈ lw_all := lw_g (lw_at lw_m13 92 rfl) rfl
theorem q3109 : (Jvm.Cond.code ({ cls := "AcousticCameraModel", name := "readLine", desc := "()V" } : Jvm.MethodName) prog_15_method_33_code (1 : Nat) (Option.none : Option Jvm.ClassFile.FieldType)) ∈ lw_all := lw_g (lw_at lw_m13 93 rfl) rfl
theorem q3110 : (Jvm.Cond.stringRef "AcousticCameraModel" (171 : Nat) "wall") ∈ lw_tbl := lw_at lw_m13 94 rfl
theorem q3111 : (Jvm.Cond.methodLink "AcousticCameraModel" (173 : Nat) ({ cls := "AcousticCameraModel", name := "readWall", desc := "()V" } : Jvm.MethodName)) ∈ lw_all := lw_g (lw_at lw_m13 95 rfl) rfl
theorem q3112 : (Jvm.Cond.privateMethod ({ cls := "AcousticCameraModel", name := "readWall", desc := "()V" } : Jvm.MethodName)) ∈ lw_tbl := lw_at lw_m13 96 rfl
theorem q3113 : (Jvm.Cond.instanceMethod ({ cls := "AcousticCameraModel", name := "readWall", desc := "()V" } : Jvm.MethodName)) ∈ lw_all := lw_g (lw_at lw_m13 97 rfl) rfl
theorem q3114 : (Jvm.Cond.code ({ cls := "AcousticCameraModel", name := "readWall", desc := "()V" } : Jvm.MethodName) prog_15_method_26_code (4 : Nat) (Option.none : Option Jvm.ClassFile.FieldType)) ∈ lw_all := lw_g (lw_at lw_m13 98 rfl) rfl
theorem q3115 : (Jvm.Cond.methodLink "AcousticCameraModel" (158 : Nat) ({ cls := "AcousticCameraModel", name := "signed", desc := "(II)I" } : Jvm.MethodName)) ∈ lw_all := lw_g (lw_at lw_m13 99 rfl) rfl
theorem q3116 : (Jvm.Cond.privateMethod ({ cls := "AcousticCameraModel", name := "signed", desc := "(II)I" } : Jvm.MethodName)) ∈ lw_tbl := lw_at lw_m13 100 rfl
theorem q3117 : (Jvm.Cond.instanceMethod ({ cls := "AcousticCameraModel", name := "signed", desc := "(II)I" } : Jvm.MethodName)) ∈ lw_all := lw_g (lw_at lw_m13 101 rfl) rfl
theorem q3118 : (Jvm.Cond.code ({ cls := "AcousticCameraModel", name := "signed", desc := "(II)I" } : Jvm.MethodName) prog_15_method_21_code (4 : Nat) (Option.some Jvm.ClassFile.FieldType.int)) ∈ lw_all := lw_g (lw_at lw_m13 102 rfl) rfl
theorem q3119 : (Jvm.Cond.stringRef "AcousticCameraModel" (176 : Nat) "fade") ∈ lw_tbl := lw_at lw_m13 103 rfl
theorem q3120 : (Jvm.Cond.methodLink "AcousticCameraModel" (178 : Nat) ({ cls := "AcousticCameraModel", name := "readFade", desc := "()V" } : Jvm.MethodName)) ∈ lw_all := lw_g (lw_at lw_m13 104 rfl) rfl
theorem q3121 : (Jvm.Cond.privateMethod ({ cls := "AcousticCameraModel", name := "readFade", desc := "()V" } : Jvm.MethodName)) ∈ lw_tbl := lw_at lw_m13 105 rfl
theorem q3122 : (Jvm.Cond.instanceMethod ({ cls := "AcousticCameraModel", name := "readFade", desc := "()V" } : Jvm.MethodName)) ∈ lw_all := lw_g (lw_at lw_m13 106 rfl) rfl
theorem q3123 : (Jvm.Cond.code ({ cls := "AcousticCameraModel", name := "readFade", desc := "()V" } : Jvm.MethodName) prog_15_method_27_code (2 : Nat) (Option.none : Option Jvm.ClassFile.FieldType)) ∈ lw_all := lw_g (lw_at lw_m13 107 rfl) rfl
theorem q3124 : (Jvm.Cond.stringRef "AcousticCameraModel" (181 : Nat) "filter") ∈ lw_tbl := lw_at lw_m13 108 rfl
theorem q3125 : (Jvm.Cond.methodLink "AcousticCameraModel" (183 : Nat) ({ cls := "AcousticCameraModel", name := "readFilter", desc := "()V" } : Jvm.MethodName)) ∈ lw_all := lw_g (lw_at lw_m13 109 rfl) rfl
theorem q3126 : (Jvm.Cond.privateMethod ({ cls := "AcousticCameraModel", name := "readFilter", desc := "()V" } : Jvm.MethodName)) ∈ lw_tbl := lw_at lw_m13 110 rfl
theorem q3127 : (Jvm.Cond.instanceMethod ({ cls := "AcousticCameraModel", name := "readFilter", desc := "()V" } : Jvm.MethodName)) ∈ lw_all := lw_g (lw_at lw_m13 111 rfl) rfl
theorem q3128 : (Jvm.Cond.code ({ cls := "AcousticCameraModel", name := "readFilter", desc := "()V" } : Jvm.MethodName) prog_15_method_28_code (3 : Nat) (Option.none : Option Jvm.ClassFile.FieldType)) ∈ lw_all := lw_g (lw_at lw_m13 112 rfl) rfl
theorem q3129 : (Jvm.Cond.stringRef "AcousticCameraModel" (186 : Nat) "clock") ∈ lw_tbl := lw_at lw_m13 113 rfl
theorem q3130 : (Jvm.Cond.methodLink "AcousticCameraModel" (188 : Nat) ({ cls := "AcousticCameraModel", name := "readClock", desc := "()V" } : Jvm.MethodName)) ∈ lw_all := lw_g (lw_at lw_m13 114 rfl) rfl
theorem q3131 : (Jvm.Cond.privateMethod ({ cls := "AcousticCameraModel", name := "readClock", desc := "()V" } : Jvm.MethodName)) ∈ lw_tbl := lw_at lw_m13 115 rfl
theorem q3132 : (Jvm.Cond.instanceMethod ({ cls := "AcousticCameraModel", name := "readClock", desc := "()V" } : Jvm.MethodName)) ∈ lw_all := lw_g (lw_at lw_m13 116 rfl) rfl
theorem q3133 : (Jvm.Cond.code ({ cls := "AcousticCameraModel", name := "readClock", desc := "()V" } : Jvm.MethodName) prog_15_method_29_code (3 : Nat) (Option.none : Option Jvm.ClassFile.FieldType)) ∈ lw_all := lw_g (lw_at lw_m13 117 rfl) rfl
theorem q3134 : (Jvm.Cond.stringRef "AcousticCameraModel" (191 : Nat) "zone") ∈ lw_tbl := lw_at lw_m13 118 rfl
theorem q3135 : (Jvm.Cond.methodLink "AcousticCameraModel" (193 : Nat) ({ cls := "AcousticCameraModel", name := "readZone", desc := "()V" } : Jvm.MethodName)) ∈ lw_all := lw_g (lw_at lw_m13 119 rfl) rfl
theorem q3136 : (Jvm.Cond.privateMethod ({ cls := "AcousticCameraModel", name := "readZone", desc := "()V" } : Jvm.MethodName)) ∈ lw_tbl := lw_at lw_m13 120 rfl
theorem q3137 : (Jvm.Cond.instanceMethod ({ cls := "AcousticCameraModel", name := "readZone", desc := "()V" } : Jvm.MethodName)) ∈ lw_all := lw_g (lw_at lw_m13 121 rfl) rfl
theorem q3138 : (Jvm.Cond.code ({ cls := "AcousticCameraModel", name := "readZone", desc := "()V" } : Jvm.MethodName) prog_15_method_32_code (7 : Nat) (Option.none : Option Jvm.ClassFile.FieldType)) ∈ lw_all := lw_g (lw_at lw_m13 122 rfl) rfl
theorem q3139 : (Jvm.Cond.stringRef "AcousticCameraModel" (196 : Nat) "shade") ∈ lw_tbl := lw_at lw_m13 123 rfl
theorem q3140 : (Jvm.Cond.methodLink "AcousticCameraModel" (198 : Nat) ({ cls := "AcousticCameraModel", name := "readShade", desc := "()V" } : Jvm.MethodName)) ∈ lw_all := lw_g (lw_at lw_m13 124 rfl) rfl
theorem q3141 : (Jvm.Cond.privateMethod ({ cls := "AcousticCameraModel", name := "readShade", desc := "()V" } : Jvm.MethodName)) ∈ lw_tbl := lw_at lw_m13 125 rfl
theorem q3142 : (Jvm.Cond.instanceMethod ({ cls := "AcousticCameraModel", name := "readShade", desc := "()V" } : Jvm.MethodName)) ∈ lw_all := lw_g (lw_at lw_m13 126 rfl) rfl
theorem q3143 : (Jvm.Cond.code ({ cls := "AcousticCameraModel", name := "readShade", desc := "()V" } : Jvm.MethodName) prog_15_method_30_code (2 : Nat) (Option.none : Option Jvm.ClassFile.FieldType)) ∈ lw_all := lw_g (lw_at lw_m13 127 rfl) rfl
theorem q3144 : (Jvm.Cond.stringRef "AcousticCameraModel" (201 : Nat) "off") ∈ lw_tbl := lw_at lw_m13 128 rfl
theorem q3145 : (Jvm.Cond.methodLink "AcousticCameraModel" (203 : Nat) ({ cls := "AcousticCameraModel", name := "readOff", desc := "()V" } : Jvm.MethodName)) ∈ lw_all := lw_g (lw_at lw_m13 129 rfl) rfl
theorem q3146 : (Jvm.Cond.privateMethod ({ cls := "AcousticCameraModel", name := "readOff", desc := "()V" } : Jvm.MethodName)) ∈ lw_tbl := lw_at lw_m13 130 rfl
theorem q3147 : (Jvm.Cond.instanceMethod ({ cls := "AcousticCameraModel", name := "readOff", desc := "()V" } : Jvm.MethodName)) ∈ lw_all := lw_g (lw_at lw_m13 131 rfl) rfl
theorem q3148 : (Jvm.Cond.code ({ cls := "AcousticCameraModel", name := "readOff", desc := "()V" } : Jvm.MethodName) prog_15_method_31_code (2 : Nat) (Option.none : Option Jvm.ClassFile.FieldType)) ∈ lw_all := lw_g (lw_at lw_m13 132 rfl) rfl
theorem q3149 : (Jvm.Cond.stringRef "AcousticCameraModel" (206 : Nat) "mic") ∈ lw_tbl := lw_at lw_m13 133 rfl
theorem q3150 : (Jvm.Cond.methodLink "AcousticCameraModel" (208 : Nat) ({ cls := "AcousticCameraModel", name := "readMic", desc := "()V" } : Jvm.MethodName)) ∈ lw_all := lw_g (lw_at lw_m13 134 rfl) rfl
theorem q3151 : (Jvm.Cond.privateMethod ({ cls := "AcousticCameraModel", name := "readMic", desc := "()V" } : Jvm.MethodName)) ∈ lw_tbl := lw_at lw_m13 135 rfl
theorem q3152 : (Jvm.Cond.instanceMethod ({ cls := "AcousticCameraModel", name := "readMic", desc := "()V" } : Jvm.MethodName)) ∈ lw_all := lw_g (lw_at lw_m13 136 rfl) rfl
theorem q3153 : (Jvm.Cond.code ({ cls := "AcousticCameraModel", name := "readMic", desc := "()V" } : Jvm.MethodName) prog_15_method_23_code (5 : Nat) (Option.none : Option Jvm.ClassFile.FieldType)) ∈ lw_all := lw_g (lw_at lw_m13 137 rfl) rfl
theorem q3154 : (Jvm.Cond.stringRef "AcousticCameraModel" (211 : Nat) "map") ∈ lw_tbl := lw_at lw_m13 138 rfl
theorem q3155 : (Jvm.Cond.methodLink "AcousticCameraModel" (213 : Nat) ({ cls := "AcousticCameraModel", name := "readMap", desc := "()V" } : Jvm.MethodName)) ∈ lw_all := lw_g (lw_at lw_m13 139 rfl) rfl
theorem q3156 : (Jvm.Cond.privateMethod ({ cls := "AcousticCameraModel", name := "readMap", desc := "()V" } : Jvm.MethodName)) ∈ lw_tbl := lw_at lw_m13 140 rfl
theorem q3157 : (Jvm.Cond.instanceMethod ({ cls := "AcousticCameraModel", name := "readMap", desc := "()V" } : Jvm.MethodName)) ∈ lw_all := lw_g (lw_at lw_m13 141 rfl) rfl
theorem q3158 : (Jvm.Cond.code ({ cls := "AcousticCameraModel", name := "readMap", desc := "()V" } : Jvm.MethodName) prog_15_method_24_code (6 : Nat) (Option.none : Option Jvm.ClassFile.FieldType)) ∈ lw_all := lw_g (lw_at lw_m13 142 rfl) rfl
theorem q3159 : (Jvm.Cond.stringRef "AcousticCameraModel" (216 : Nat) "source") ∈ lw_tbl := lw_at lw_m13 143 rfl
theorem q3160 : (Jvm.Cond.methodLink "AcousticCameraModel" (218 : Nat) ({ cls := "AcousticCameraModel", name := "readSource", desc := "()V" } : Jvm.MethodName)) ∈ lw_all := lw_g (lw_at lw_m13 144 rfl) rfl
theorem q3161 : (Jvm.Cond.privateMethod ({ cls := "AcousticCameraModel", name := "readSource", desc := "()V" } : Jvm.MethodName)) ∈ lw_tbl := lw_at lw_m13 145 rfl
theorem q3162 : (Jvm.Cond.instanceMethod ({ cls := "AcousticCameraModel", name := "readSource", desc := "()V" } : Jvm.MethodName)) ∈ lw_all := lw_g (lw_at lw_m13 146 rfl) rfl
theorem q3163 : (Jvm.Cond.code ({ cls := "AcousticCameraModel", name := "readSource", desc := "()V" } : Jvm.MethodName) prog_15_method_25_code (11 : Nat) (Option.none : Option Jvm.ClassFile.FieldType)) ∈ lw_all := lw_g (lw_at lw_m13 147 rfl) rfl
theorem q3164 : (Jvm.Cond.stringRef "AcousticCameraModel" (161 : Nat) "square") ∈ lw_tbl := lw_at lw_m13 148 rfl
theorem q3165 : (Jvm.Cond.stringRef "AcousticCameraModel" (163 : Nat) "triangle") ∈ lw_tbl := lw_at lw_m13 149 rfl
theorem q3166 : (Jvm.Cond.stringRef "AcousticCameraModel" (165 : Nat) "pulse") ∈ lw_tbl := lw_at lw_m13 150 rfl
theorem q3167 : (Jvm.Cond.stringRef "AcousticCameraModel" (167 : Nat) "noise") ∈ lw_tbl := lw_at lw_m13 151 rfl
theorem q3168 : (Jvm.Cond.stringRef "AcousticCameraModel" (169 : Nat) "from") ∈ lw_tbl := lw_at lw_m13 152 rfl
theorem q3169 : (Jvm.Cond.methodLink "AcousticCameraModel" (233 : Nat) ({ cls := "AcousticCameraModel", name := "copy", desc := "([II[II)V" } : Jvm.MethodName)) ∈ lw_all := lw_g (lw_at lw_m13 153 rfl) rfl
theorem q3170 : (Jvm.Cond.static ({ cls := "AcousticCameraModel", name := "copy", desc := "([II[II)V" } : Jvm.MethodName)) ∈ lw_all := lw_g (lw_at lw_m13 154 rfl) rfl
theorem q3171 : (Jvm.Cond.code ({ cls := "AcousticCameraModel", name := "copy", desc := "([II[II)V" } : Jvm.MethodName) prog_15_method_36_code (5 : Nat) (Option.none : Option Jvm.ClassFile.FieldType)) ∈ lw_all := lw_g (lw_at lw_m13 155 rfl) rfl
theorem q3172 : (Jvm.Cond.methodLink "AcousticCameraModel" (237 : Nat) ({ cls := "AcousticCameraModel", name := "cellCount", desc := "()I" } : Jvm.MethodName)) ∈ lw_all := lw_g (lw_at lw_m13 156 rfl) rfl
theorem q3173 : (Jvm.Cond.privateMethod ({ cls := "AcousticCameraModel", name := "cellCount", desc := "()I" } : Jvm.MethodName)) ∈ lw_tbl := lw_at lw_m13 157 rfl
theorem q3174 : (Jvm.Cond.instanceMethod ({ cls := "AcousticCameraModel", name := "cellCount", desc := "()I" } : Jvm.MethodName)) ∈ lw_all := lw_g (lw_at lw_m13 158 rfl) rfl
theorem q3175 : (Jvm.Cond.code ({ cls := "AcousticCameraModel", name := "cellCount", desc := "()I" } : Jvm.MethodName) prog_15_method_38_code (1 : Nat) (Option.some Jvm.ClassFile.FieldType.int)) ∈ lw_all := lw_g (lw_at lw_m13 159 rfl) rfl
theorem q3176 : (Jvm.Cond.methodLink "AcousticCameraModel" (240 : Nat) ({ cls := "AcousticCameraModel", name := "centre", desc := "(II)I" } : Jvm.MethodName)) ∈ lw_all := lw_g (lw_at lw_m13 160 rfl) rfl
theorem q3177 : (Jvm.Cond.privateMethod ({ cls := "AcousticCameraModel", name := "centre", desc := "(II)I" } : Jvm.MethodName)) ∈ lw_tbl := lw_at lw_m13 161 rfl
theorem q3178 : (Jvm.Cond.instanceMethod ({ cls := "AcousticCameraModel", name := "centre", desc := "(II)I" } : Jvm.MethodName)) ∈ lw_all := lw_g (lw_at lw_m13 162 rfl) rfl
theorem q3179 : (Jvm.Cond.code ({ cls := "AcousticCameraModel", name := "centre", desc := "(II)I" } : Jvm.MethodName) prog_15_method_39_code (3 : Nat) (Option.some Jvm.ClassFile.FieldType.int)) ∈ lw_all := lw_g (lw_at lw_m13 163 rfl) rfl
theorem q3180 : (Jvm.Cond.methodLink "AcousticCameraModel" (243 : Nat) ({ cls := "AcousticCameraModel", name := "delayFrom", desc := "(III)I" } : Jvm.MethodName)) ∈ lw_all := lw_g (lw_at lw_m13 164 rfl) rfl
theorem q3181 : (Jvm.Cond.privateMethod ({ cls := "AcousticCameraModel", name := "delayFrom", desc := "(III)I" } : Jvm.MethodName)) ∈ lw_tbl := lw_at lw_m13 165 rfl
theorem q3182 : (Jvm.Cond.instanceMethod ({ cls := "AcousticCameraModel", name := "delayFrom", desc := "(III)I" } : Jvm.MethodName)) ∈ lw_all := lw_g (lw_at lw_m13 166 rfl) rfl
theorem q3183 : (Jvm.Cond.code ({ cls := "AcousticCameraModel", name := "delayFrom", desc := "(III)I" } : Jvm.MethodName) prog_15_method_41_code (7 : Nat) (Option.some Jvm.ClassFile.FieldType.int)) ∈ lw_all := lw_g (lw_at lw_m13 167 rfl) rfl
theorem q3184 : (Jvm.Cond.methodLink "AcousticCameraModel" (259 : Nat) ({ cls := "AcousticCameraModel", name := "root", desc := "(I)I" } : Jvm.MethodName)) ∈ lw_all := lw_g (lw_at lw_m13 168 rfl) rfl
theorem q3185 : (Jvm.Cond.static ({ cls := "AcousticCameraModel", name := "root", desc := "(I)I" } : Jvm.MethodName)) ∈ lw_all := lw_g (lw_at lw_m13 169 rfl) rfl
theorem q3186 : (Jvm.Cond.code ({ cls := "AcousticCameraModel", name := "root", desc := "(I)I" } : Jvm.MethodName) prog_15_method_40_code (5 : Nat) (Option.some Jvm.ClassFile.FieldType.int)) ∈ lw_all := lw_g (lw_at lw_m13 170 rfl) rfl
theorem q3187 : (Jvm.Cond.constant "AcousticCameraModel" (258 : Nat) (32768 : Int32)) ∈ lw_all := lw_g (lw_at lw_m13 171 rfl) rfl
theorem q3188 : (Jvm.Cond.methodLink "AcousticCameraModel" (247 : Nat) ({ cls := "AcousticCameraModel", name := "records", desc := "([I)V" } : Jvm.MethodName)) ∈ lw_all := lw_g (lw_at lw_m13 172 rfl) rfl
theorem q3189 : (Jvm.Cond.privateMethod ({ cls := "AcousticCameraModel", name := "records", desc := "([I)V" } : Jvm.MethodName)) ∈ lw_tbl := lw_at lw_m13 173 rfl
theorem q3190 : (Jvm.Cond.instanceMethod ({ cls := "AcousticCameraModel", name := "records", desc := "([I)V" } : Jvm.MethodName)) ∈ lw_all := lw_g (lw_at lw_m13 174 rfl) rfl
theorem q3191 : (Jvm.Cond.code ({ cls := "AcousticCameraModel", name := "records", desc := "([I)V" } : Jvm.MethodName) prog_15_method_50_code (4 : Nat) (Option.none : Option Jvm.ClassFile.FieldType)) ∈ lw_all := lw_g (lw_at lw_m13 175 rfl) rfl
theorem q3192 : (Jvm.Cond.methodLink "AcousticCameraModel" (294 : Nat) ({ cls := "AcousticCameraModel", name := "rawAt", desc := "([III)I" } : Jvm.MethodName)) ∈ lw_all := lw_g (lw_at lw_m13 176 rfl) rfl
theorem q3193 : (Jvm.Cond.privateMethod ({ cls := "AcousticCameraModel", name := "rawAt", desc := "([III)I" } : Jvm.MethodName)) ∈ lw_tbl := lw_at lw_m13 177 rfl
theorem q3194 : (Jvm.Cond.instanceMethod ({ cls := "AcousticCameraModel", name := "rawAt", desc := "([III)I" } : Jvm.MethodName)) ∈ lw_all := lw_g (lw_at lw_m13 178 rfl) rfl
theorem q3195 : (Jvm.Cond.code ({ cls := "AcousticCameraModel", name := "rawAt", desc := "([III)I" } : Jvm.MethodName) prog_15_method_48_code (7 : Nat) (Option.some Jvm.ClassFile.FieldType.int)) ∈ lw_all := lw_g (lw_at lw_m13 179 rfl) rfl
theorem q3196 : (Jvm.Cond.methodLink "AcousticCameraModel" (287 : Nat) ({ cls := "AcousticCameraModel", name := "heardOf", desc := "(IIIII)I" } : Jvm.MethodName)) ∈ lw_all := lw_g (lw_at lw_m13 180 rfl) rfl
theorem q3197 : (Jvm.Cond.privateMethod ({ cls := "AcousticCameraModel", name := "heardOf", desc := "(IIIII)I" } : Jvm.MethodName)) ∈ lw_tbl := lw_at lw_m13 181 rfl
theorem q3198 : (Jvm.Cond.instanceMethod ({ cls := "AcousticCameraModel", name := "heardOf", desc := "(IIIII)I" } : Jvm.MethodName)) ∈ lw_all := lw_g (lw_at lw_m13 182 rfl) rfl
theorem q3199 : (Jvm.Cond.code ({ cls := "AcousticCameraModel", name := "heardOf", desc := "(IIIII)I" } : Jvm.MethodName) prog_15_method_47_code (8 : Nat) (Option.some Jvm.ClassFile.FieldType.int)) ∈ lw_all := lw_g (lw_at lw_m13 183 rfl) rfl
theorem q3200 : (Jvm.Cond.methodLink "AcousticCameraModel" (283 : Nat) ({ cls := "AcousticCameraModel", name := "heardFrom", desc := "(IIIII)I" } : Jvm.MethodName)) ∈ lw_all := lw_g (lw_at lw_m13 184 rfl) rfl
theorem q3201 : (Jvm.Cond.privateMethod ({ cls := "AcousticCameraModel", name := "heardFrom", desc := "(IIIII)I" } : Jvm.MethodName)) ∈ lw_tbl := lw_at lw_m13 185 rfl
theorem q3202 : (Jvm.Cond.instanceMethod ({ cls := "AcousticCameraModel", name := "heardFrom", desc := "(IIIII)I" } : Jvm.MethodName)) ∈ lw_all := lw_g (lw_at lw_m13 186 rfl) rfl
theorem q3203 : (Jvm.Cond.code ({ cls := "AcousticCameraModel", name := "heardFrom", desc := "(IIIII)I" } : Jvm.MethodName) prog_15_method_46_code (8 : Nat) (Option.some Jvm.ClassFile.FieldType.int)) ∈ lw_all := lw_g (lw_at lw_m13 187 rfl) rfl
theorem q3204 : (Jvm.Cond.methodLink "AcousticCameraModel" (280 : Nat) ({ cls := "AcousticCameraModel", name := "waveNow", desc := "(II)I" } : Jvm.MethodName)) ∈ lw_all := lw_g (lw_at lw_m13 188 rfl) rfl
theorem q3205 : (Jvm.Cond.privateMethod ({ cls := "AcousticCameraModel", name := "waveNow", desc := "(II)I" } : Jvm.MethodName)) ∈ lw_tbl := lw_at lw_m13 189 rfl
theorem q3206 : (Jvm.Cond.instanceMethod ({ cls := "AcousticCameraModel", name := "waveNow", desc := "(II)I" } : Jvm.MethodName)) ∈ lw_all := lw_g (lw_at lw_m13 190 rfl) rfl
theorem q3207 : (Jvm.Cond.code ({ cls := "AcousticCameraModel", name := "waveNow", desc := "(II)I" } : Jvm.MethodName) prog_15_method_45_code (3 : Nat) (Option.some Jvm.ClassFile.FieldType.int)) ∈ lw_all := lw_g (lw_at lw_m13 191 rfl) rfl
theorem q3208 : (Jvm.Cond.methodLink "AcousticCameraModel" (274 : Nat) ({ cls := "AcousticCameraModel", name := "wave", desc := "(II)I" } : Jvm.MethodName)) ∈ lw_all := lw_g (lw_at lw_m13 192 rfl) rfl
theorem q3209 : (Jvm.Cond.privateMethod ({ cls := "AcousticCameraModel", name := "wave", desc := "(II)I" } : Jvm.MethodName)) ∈ lw_tbl := lw_at lw_m13 193 rfl
theorem q3210 : (Jvm.Cond.instanceMethod ({ cls := "AcousticCameraModel", name := "wave", desc := "(II)I" } : Jvm.MethodName)) ∈ lw_all := lw_g (lw_at lw_m13 194 rfl) rfl
theorem q3211 : (Jvm.Cond.code ({ cls := "AcousticCameraModel", name := "wave", desc := "(II)I" } : Jvm.MethodName) prog_15_method_43_code (6 : Nat) (Option.some Jvm.ClassFile.FieldType.int)) ∈ lw_all := lw_g (lw_at lw_m13 195 rfl) rfl
theorem q3212 : (Jvm.Cond.methodLink "AcousticCameraModel" (262 : Nat) ({ cls := "java/lang/Math", name := "abs", desc := "(I)I" } : Jvm.MethodName)) ∈ lw_all := lw_g (lw_at lw_m13 196 rfl) rfl
theorem q3213 : (Jvm.Cond.constant "AcousticCameraModel" (267 : Nat) (104729 : Int32)) ∈ lw_all := lw_g (lw_at lw_m13 197 rfl) rfl
theorem q3214 : (Jvm.Cond.methodLink "AcousticCameraModel" (290 : Nat) ({ cls := "AcousticCameraModel", name := "sourcePlace", desc := "([IIII)I" } : Jvm.MethodName)) ∈ lw_all := lw_g (lw_at lw_m13 198 rfl) rfl
theorem q3215 : (Jvm.Cond.privateMethod ({ cls := "AcousticCameraModel", name := "sourcePlace", desc := "([IIII)I" } : Jvm.MethodName)) ∈ lw_tbl := lw_at lw_m13 199 rfl
theorem q3216 : (Jvm.Cond.instanceMethod ({ cls := "AcousticCameraModel", name := "sourcePlace", desc := "([IIII)I" } : Jvm.MethodName)) ∈ lw_all := lw_g (lw_at lw_m13 200 rfl) rfl
theorem q3217 : (Jvm.Cond.code ({ cls := "AcousticCameraModel", name := "sourcePlace", desc := "([IIII)I" } : Jvm.MethodName) prog_15_method_42_code (5 : Nat) (Option.some Jvm.ClassFile.FieldType.int)) ∈ lw_all := lw_g (lw_at lw_m13 201 rfl) rfl
theorem q3218 : (Jvm.Cond.methodLink "AcousticCameraModel" (298 : Nat) ({ cls := "AcousticCameraModel", name := "filtered", desc := "(I)I" } : Jvm.MethodName)) ∈ lw_all := lw_g (lw_at lw_m13 202 rfl) rfl
theorem q3219 : (Jvm.Cond.privateMethod ({ cls := "AcousticCameraModel", name := "filtered", desc := "(I)I" } : Jvm.MethodName)) ∈ lw_tbl := lw_at lw_m13 203 rfl
theorem q3220 : (Jvm.Cond.instanceMethod ({ cls := "AcousticCameraModel", name := "filtered", desc := "(I)I" } : Jvm.MethodName)) ∈ lw_all := lw_g (lw_at lw_m13 204 rfl) rfl
theorem q3221 : (Jvm.Cond.code ({ cls := "AcousticCameraModel", name := "filtered", desc := "(I)I" } : Jvm.MethodName) prog_15_method_49_code (4 : Nat) (Option.some Jvm.ClassFile.FieldType.int)) ∈ lw_all := lw_g (lw_at lw_m13 205 rfl) rfl
theorem q3222 : (Jvm.Cond.methodLink "AcousticCameraModel" (301 : Nat) ({ cls := "AcousticCameraModel", name := "bounded", desc := "(I)I" } : Jvm.MethodName)) ∈ lw_all := lw_g (lw_at lw_m13 206 rfl) rfl
theorem q3223 : (Jvm.Cond.privateMethod ({ cls := "AcousticCameraModel", name := "bounded", desc := "(I)I" } : Jvm.MethodName)) ∈ lw_tbl := lw_at lw_m13 207 rfl
theorem q3224 : (Jvm.Cond.instanceMethod ({ cls := "AcousticCameraModel", name := "bounded", desc := "(I)I" } : Jvm.MethodName)) ∈ lw_all := lw_g (lw_at lw_m13 208 rfl) rfl
theorem q3225 : (Jvm.Cond.code ({ cls := "AcousticCameraModel", name := "bounded", desc := "(I)I" } : Jvm.MethodName) prog_15_method_44_code (2 : Nat) (Option.some Jvm.ClassFile.FieldType.int)) ∈ lw_all := lw_g (lw_at lw_m13 209 rfl) rfl
theorem q3226 : (Jvm.Cond.methodLink "AcousticCameraModel" (268 : Nat) ({ cls := "java/lang/Math", name := "min", desc := "(II)I" } : Jvm.MethodName)) ∈ lw_all := lw_g (lw_at lw_m13 210 rfl) rfl
theorem q3227 : (Jvm.Cond.methodLink "AcousticCameraModel" (271 : Nat) ({ cls := "java/lang/Math", name := "max", desc := "(II)I" } : Jvm.MethodName)) ∈ lw_all := lw_g (lw_at lw_m13 211 rfl) rfl
theorem q3229 : (Jvm.Cond.instanceMethod ({ cls := "AcousticCameraModel", name := "mics", desc := "()I" } : Jvm.MethodName)) ∈ lw_all := lw_g (lw_at lw_m13 213 rfl) rfl
theorem q3230 : (Jvm.Cond.selects "AcousticCameraModel" ({ cls := "AcousticCameraModel", name := "mics", desc := "()I" } : Jvm.MethodName) ({ cls := "AcousticCameraModel", name := "mics", desc := "()I" } : Jvm.MethodName)) ∈ lw_all := lw_g (lw_at lw_m13 214 rfl) rfl
theorem q3231 : (Jvm.Cond.code ({ cls := "AcousticCameraModel", name := "mics", desc := "()I" } : Jvm.MethodName) prog_15_method_69_code (1 : Nat) (Option.some Jvm.ClassFile.FieldType.int)) ∈ lw_all := lw_g (lw_at lw_m13 215 rfl) rfl
theorem q3232 : (Jvm.Cond.methodLink "AcousticCameraModel" (334 : Nat) ({ cls := "AcousticCameraModel", name := "told", desc := "(I)I" } : Jvm.MethodName)) ∈ lw_all := lw_g (lw_at lw_m13 216 rfl) rfl
theorem q3233 : (Jvm.Cond.privateMethod ({ cls := "AcousticCameraModel", name := "told", desc := "(I)I" } : Jvm.MethodName)) ∈ lw_tbl := lw_at lw_m13 217 rfl
theorem q3234 : (Jvm.Cond.instanceMethod ({ cls := "AcousticCameraModel", name := "told", desc := "(I)I" } : Jvm.MethodName)) ∈ lw_all := lw_g (lw_at lw_m13 218 rfl) rfl
theorem q3235 : (Jvm.Cond.code ({ cls := "AcousticCameraModel", name := "told", desc := "(I)I" } : Jvm.MethodName) prog_15_method_63_code (2 : Nat) (Option.some Jvm.ClassFile.FieldType.int)) ∈ lw_all := lw_g (lw_at lw_m13 219 rfl) rfl
theorem q3237 : (Jvm.Cond.instanceMethod ({ cls := "AcousticCameraModel", name := "micAt", desc := "(II)I" } : Jvm.MethodName)) ∈ lw_all := lw_g (lw_at lw_m13 221 rfl) rfl
theorem q3238 : (Jvm.Cond.selects "AcousticCameraModel" ({ cls := "AcousticCameraModel", name := "micAt", desc := "(II)I" } : Jvm.MethodName) ({ cls := "AcousticCameraModel", name := "micAt", desc := "(II)I" } : Jvm.MethodName)) ∈ lw_all := lw_g (lw_at lw_m13 222 rfl) rfl
theorem q3239 : (Jvm.Cond.code ({ cls := "AcousticCameraModel", name := "micAt", desc := "(II)I" } : Jvm.MethodName) prog_15_method_70_code (3 : Nat) (Option.some Jvm.ClassFile.FieldType.int)) ∈ lw_all := lw_g (lw_at lw_m13 223 rfl) rfl
theorem q3240 : (Jvm.Cond.methodLink "AcousticCameraModel" (337 : Nat) ({ cls := "AcousticCameraModel", name := "isMic", desc := "(I)Z" } : Jvm.MethodName)) ∈ lw_all := lw_g (lw_at lw_m13 224 rfl) rfl
theorem q3241 : (Jvm.Cond.privateMethod ({ cls := "AcousticCameraModel", name := "isMic", desc := "(I)Z" } : Jvm.MethodName)) ∈ lw_tbl := lw_at lw_m13 225 rfl
theorem q3242 : (Jvm.Cond.instanceMethod ({ cls := "AcousticCameraModel", name := "isMic", desc := "(I)Z" } : Jvm.MethodName)) ∈ lw_all := lw_g (lw_at lw_m13 226 rfl) rfl
theorem q3243 : (Jvm.Cond.code ({ cls := "AcousticCameraModel", name := "isMic", desc := "(I)Z" } : Jvm.MethodName) prog_15_method_64_code (2 : Nat) (Option.some Jvm.ClassFile.FieldType.boolean)) ∈ lw_all := lw_g (lw_at lw_m13 227 rfl) rfl
theorem q3244 : (Jvm.Cond.methodLink "AcousticCameraModel" (340 : Nat) ({ cls := "AcousticCameraModel", name := "mayAsk", desc := "(Z)Z" } : Jvm.MethodName)) ∈ lw_all := lw_g (lw_at lw_m13 228 rfl) rfl
theorem q3245 : (Jvm.Cond.privateMethod ({ cls := "AcousticCameraModel", name := "mayAsk", desc := "(Z)Z" } : Jvm.MethodName)) ∈ lw_tbl := lw_at lw_m13 229 rfl
theorem q3246 : (Jvm.Cond.instanceMethod ({ cls := "AcousticCameraModel", name := "mayAsk", desc := "(Z)Z" } : Jvm.MethodName)) ∈ lw_all := lw_g (lw_at lw_m13 230 rfl) rfl
theorem q3247 : (Jvm.Cond.code ({ cls := "AcousticCameraModel", name := "mayAsk", desc := "(Z)Z" } : Jvm.MethodName) prog_15_method_62_code (2 : Nat) (Option.some Jvm.ClassFile.FieldType.boolean)) ∈ lw_all := lw_g (lw_at lw_m13 231 rfl) rfl
theorem q3249 : (Jvm.Cond.instanceMethod ({ cls := "AcousticCameraModel", name := "isMuted", desc := "(I)Z" } : Jvm.MethodName)) ∈ lw_all := lw_g (lw_at lw_m13 233 rfl) rfl
theorem q3250 : (Jvm.Cond.selects "AcousticCameraModel" ({ cls := "AcousticCameraModel", name := "isMuted", desc := "(I)Z" } : Jvm.MethodName) ({ cls := "AcousticCameraModel", name := "isMuted", desc := "(I)Z" } : Jvm.MethodName)) ∈ lw_all := lw_g (lw_at lw_m13 234 rfl) rfl
theorem q3251 : (Jvm.Cond.code ({ cls := "AcousticCameraModel", name := "isMuted", desc := "(I)Z" } : Jvm.MethodName) prog_15_method_71_code (2 : Nat) (Option.some Jvm.ClassFile.FieldType.boolean)) ∈ lw_all := lw_g (lw_at lw_m13 235 rfl) rfl
theorem q3252 : (Jvm.Cond.methodLink "AcousticCameraModel" (304 : Nat) ({ cls := "AcousticCameraModel", name := "hears", desc := "([II)Z" } : Jvm.MethodName)) ∈ lw_all := lw_g (lw_at lw_m13 236 rfl) rfl
theorem q3253 : (Jvm.Cond.privateMethod ({ cls := "AcousticCameraModel", name := "hears", desc := "([II)Z" } : Jvm.MethodName)) ∈ lw_tbl := lw_at lw_m13 237 rfl
theorem q3254 : (Jvm.Cond.instanceMethod ({ cls := "AcousticCameraModel", name := "hears", desc := "([II)Z" } : Jvm.MethodName)) ∈ lw_all := lw_g (lw_at lw_m13 238 rfl) rfl
theorem q3255 : (Jvm.Cond.code ({ cls := "AcousticCameraModel", name := "hears", desc := "([II)Z" } : Jvm.MethodName) prog_15_method_54_code (3 : Nat) (Option.some Jvm.ClassFile.FieldType.boolean)) ∈ lw_all := lw_g (lw_at lw_m13 239 rfl) rfl
theorem q3257 : (Jvm.Cond.instanceMethod ({ cls := "AcousticCameraModel", name := "columns", desc := "()I" } : Jvm.MethodName)) ∈ lw_all := lw_g (lw_at lw_m14 1 rfl) rfl
theorem q3258 : (Jvm.Cond.selects "AcousticCameraModel" ({ cls := "AcousticCameraModel", name := "columns", desc := "()I" } : Jvm.MethodName) ({ cls := "AcousticCameraModel", name := "columns", desc := "()I" } : Jvm.MethodName)) ∈ lw_all := lw_g (lw_at lw_m14 2 rfl) rfl
theorem q3259 : (Jvm.Cond.code ({ cls := "AcousticCameraModel", name := "columns", desc := "()I" } : Jvm.MethodName) prog_15_method_72_code (1 : Nat) (Option.some Jvm.ClassFile.FieldType.int)) ∈ lw_all := lw_g (lw_at lw_m14 3 rfl) rfl
theorem q3261 : (Jvm.Cond.instanceMethod ({ cls := "AcousticCameraModel", name := "rows", desc := "()I" } : Jvm.MethodName)) ∈ lw_all := lw_g (lw_at lw_m14 5 rfl) rfl
theorem q3262 : (Jvm.Cond.selects "AcousticCameraModel" ({ cls := "AcousticCameraModel", name := "rows", desc := "()I" } : Jvm.MethodName) ({ cls := "AcousticCameraModel", name := "rows", desc := "()I" } : Jvm.MethodName)) ∈ lw_all := lw_g (lw_at lw_m14 6 rfl) rfl
theorem q3263 : (Jvm.Cond.code ({ cls := "AcousticCameraModel", name := "rows", desc := "()I" } : Jvm.MethodName) prog_15_method_73_code (1 : Nat) (Option.some Jvm.ClassFile.FieldType.int)) ∈ lw_all := lw_g (lw_at lw_m14 7 rfl) rfl
theorem q3265 : (Jvm.Cond.instanceMethod ({ cls := "AcousticCameraModel", name := "cellAt", desc := "(II)I" } : Jvm.MethodName)) ∈ lw_all := lw_g (lw_at lw_m14 9 rfl) rfl
theorem q3266 : (Jvm.Cond.selects "AcousticCameraModel" ({ cls := "AcousticCameraModel", name := "cellAt", desc := "(II)I" } : Jvm.MethodName) ({ cls := "AcousticCameraModel", name := "cellAt", desc := "(II)I" } : Jvm.MethodName)) ∈ lw_all := lw_g (lw_at lw_m14 10 rfl) rfl
theorem q3267 : (Jvm.Cond.code ({ cls := "AcousticCameraModel", name := "cellAt", desc := "(II)I" } : Jvm.MethodName) prog_15_method_74_code (3 : Nat) (Option.some Jvm.ClassFile.FieldType.int)) ∈ lw_all := lw_g (lw_at lw_m14 11 rfl) rfl
theorem q3268 : (Jvm.Cond.methodLink "AcousticCameraModel" (344 : Nat) ({ cls := "AcousticCameraModel", name := "isCell", desc := "(I)Z" } : Jvm.MethodName)) ∈ lw_all := lw_g (lw_at lw_m14 12 rfl) rfl
theorem q3269 : (Jvm.Cond.privateMethod ({ cls := "AcousticCameraModel", name := "isCell", desc := "(I)Z" } : Jvm.MethodName)) ∈ lw_tbl := lw_at lw_m14 13 rfl
theorem q3270 : (Jvm.Cond.instanceMethod ({ cls := "AcousticCameraModel", name := "isCell", desc := "(I)Z" } : Jvm.MethodName)) ∈ lw_all := lw_g (lw_at lw_m14 14 rfl) rfl
theorem q3271 : (Jvm.Cond.code ({ cls := "AcousticCameraModel", name := "isCell", desc := "(I)Z" } : Jvm.MethodName) prog_15_method_65_code (2 : Nat) (Option.some Jvm.ClassFile.FieldType.boolean)) ∈ lw_all := lw_g (lw_at lw_m14 15 rfl) rfl
theorem q3273 : (Jvm.Cond.instanceMethod ({ cls := "AcousticCameraModel", name := "sources", desc := "()I" } : Jvm.MethodName)) ∈ lw_all := lw_g (lw_at lw_m14 17 rfl) rfl
theorem q3274 : (Jvm.Cond.selects "AcousticCameraModel" ({ cls := "AcousticCameraModel", name := "sources", desc := "()I" } : Jvm.MethodName) ({ cls := "AcousticCameraModel", name := "sources", desc := "()I" } : Jvm.MethodName)) ∈ lw_all := lw_g (lw_at lw_m14 18 rfl) rfl
theorem q3275 : (Jvm.Cond.code ({ cls := "AcousticCameraModel", name := "sources", desc := "()I" } : Jvm.MethodName) prog_15_method_75_code (1 : Nat) (Option.some Jvm.ClassFile.FieldType.int)) ∈ lw_all := lw_g (lw_at lw_m14 19 rfl) rfl
theorem q3277 : (Jvm.Cond.instanceMethod ({ cls := "AcousticCameraModel", name := "sourceAt", desc := "(III)I" } : Jvm.MethodName)) ∈ lw_all := lw_g (lw_at lw_m14 21 rfl) rfl
theorem q3278 : (Jvm.Cond.selects "AcousticCameraModel" ({ cls := "AcousticCameraModel", name := "sourceAt", desc := "(III)I" } : Jvm.MethodName) ({ cls := "AcousticCameraModel", name := "sourceAt", desc := "(III)I" } : Jvm.MethodName)) ∈ lw_all := lw_g (lw_at lw_m14 22 rfl) rfl
theorem q3279 : (Jvm.Cond.code ({ cls := "AcousticCameraModel", name := "sourceAt", desc := "(III)I" } : Jvm.MethodName) prog_15_method_76_code (4 : Nat) (Option.some Jvm.ClassFile.FieldType.int)) ∈ lw_all := lw_g (lw_at lw_m14 23 rfl) rfl
theorem q3280 : (Jvm.Cond.methodLink "AcousticCameraModel" (347 : Nat) ({ cls := "AcousticCameraModel", name := "isSource", desc := "(I)Z" } : Jvm.MethodName)) ∈ lw_all := lw_g (lw_at lw_m14 24 rfl) rfl
theorem q3281 : (Jvm.Cond.privateMethod ({ cls := "AcousticCameraModel", name := "isSource", desc := "(I)Z" } : Jvm.MethodName)) ∈ lw_tbl := lw_at lw_m14 25 rfl
theorem q3282 : (Jvm.Cond.instanceMethod ({ cls := "AcousticCameraModel", name := "isSource", desc := "(I)Z" } : Jvm.MethodName)) ∈ lw_all := lw_g (lw_at lw_m14 26 rfl) rfl
theorem q3283 : (Jvm.Cond.code ({ cls := "AcousticCameraModel", name := "isSource", desc := "(I)Z" } : Jvm.MethodName) prog_15_method_66_code (2 : Nat) (Option.some Jvm.ClassFile.FieldType.boolean)) ∈ lw_all := lw_g (lw_at lw_m14 27 rfl) rfl
theorem q3284 : (Jvm.Cond.methodLink "AcousticCameraModel" (350 : Nat) ({ cls := "AcousticCameraModel", name := "isTime", desc := "(I)Z" } : Jvm.MethodName)) ∈ lw_all := lw_g (lw_at lw_m14 28 rfl) rfl
theorem q3285 : (Jvm.Cond.privateMethod ({ cls := "AcousticCameraModel", name := "isTime", desc := "(I)Z" } : Jvm.MethodName)) ∈ lw_tbl := lw_at lw_m14 29 rfl
theorem q3286 : (Jvm.Cond.instanceMethod ({ cls := "AcousticCameraModel", name := "isTime", desc := "(I)Z" } : Jvm.MethodName)) ∈ lw_all := lw_g (lw_at lw_m14 30 rfl) rfl
theorem q3287 : (Jvm.Cond.code ({ cls := "AcousticCameraModel", name := "isTime", desc := "(I)Z" } : Jvm.MethodName) prog_15_method_67_code (2 : Nat) (Option.some Jvm.ClassFile.FieldType.boolean)) ∈ lw_all := lw_g (lw_at lw_m14 31 rfl) rfl
theorem q3289 : (Jvm.Cond.instanceMethod ({ cls := "AcousticCameraModel", name := "isOn", desc := "(I)Z" } : Jvm.MethodName)) ∈ lw_all := lw_g (lw_at lw_m14 33 rfl) rfl
theorem q3290 : (Jvm.Cond.selects "AcousticCameraModel" ({ cls := "AcousticCameraModel", name := "isOn", desc := "(I)Z" } : Jvm.MethodName) ({ cls := "AcousticCameraModel", name := "isOn", desc := "(I)Z" } : Jvm.MethodName)) ∈ lw_all := lw_g (lw_at lw_m14 34 rfl) rfl
theorem q3291 : (Jvm.Cond.code ({ cls := "AcousticCameraModel", name := "isOn", desc := "(I)Z" } : Jvm.MethodName) prog_15_method_77_code (2 : Nat) (Option.some Jvm.ClassFile.FieldType.boolean)) ∈ lw_all := lw_g (lw_at lw_m14 35 rfl) rfl
theorem q3293 : (Jvm.Cond.instanceMethod ({ cls := "AcousticCameraModel", name := "waveAt", desc := "(II)I" } : Jvm.MethodName)) ∈ lw_all := lw_g (lw_at lw_m14 37 rfl) rfl
theorem q3294 : (Jvm.Cond.selects "AcousticCameraModel" ({ cls := "AcousticCameraModel", name := "waveAt", desc := "(II)I" } : Jvm.MethodName) ({ cls := "AcousticCameraModel", name := "waveAt", desc := "(II)I" } : Jvm.MethodName)) ∈ lw_all := lw_g (lw_at lw_m14 38 rfl) rfl
theorem q3295 : (Jvm.Cond.code ({ cls := "AcousticCameraModel", name := "waveAt", desc := "(II)I" } : Jvm.MethodName) prog_15_method_78_code (3 : Nat) (Option.some Jvm.ClassFile.FieldType.int)) ∈ lw_all := lw_g (lw_at lw_m14 39 rfl) rfl
theorem q3297 : (Jvm.Cond.instanceMethod ({ cls := "AcousticCameraModel", name := "samples", desc := "()I" } : Jvm.MethodName)) ∈ lw_all := lw_g (lw_at lw_m14 41 rfl) rfl
theorem q3298 : (Jvm.Cond.selects "AcousticCameraModel" ({ cls := "AcousticCameraModel", name := "samples", desc := "()I" } : Jvm.MethodName) ({ cls := "AcousticCameraModel", name := "samples", desc := "()I" } : Jvm.MethodName)) ∈ lw_all := lw_g (lw_at lw_m14 42 rfl) rfl
theorem q3299 : (Jvm.Cond.code ({ cls := "AcousticCameraModel", name := "samples", desc := "()I" } : Jvm.MethodName) prog_15_method_79_code (1 : Nat) (Option.some Jvm.ClassFile.FieldType.int)) ∈ lw_all := lw_g (lw_at lw_m14 43 rfl) rfl
theorem q3301 : (Jvm.Cond.instanceMethod ({ cls := "AcousticCameraModel", name := "delay", desc := "(II)I" } : Jvm.MethodName)) ∈ lw_all := lw_g (lw_at lw_m14 45 rfl) rfl
theorem q3302 : (Jvm.Cond.selects "AcousticCameraModel" ({ cls := "AcousticCameraModel", name := "delay", desc := "(II)I" } : Jvm.MethodName) ({ cls := "AcousticCameraModel", name := "delay", desc := "(II)I" } : Jvm.MethodName)) ∈ lw_all := lw_g (lw_at lw_m14 46 rfl) rfl
theorem q3303 : (Jvm.Cond.code ({ cls := "AcousticCameraModel", name := "delay", desc := "(II)I" } : Jvm.MethodName) prog_15_method_80_code (3 : Nat) (Option.some Jvm.ClassFile.FieldType.int)) ∈ lw_all := lw_g (lw_at lw_m14 47 rfl) rfl
theorem q3305 : (Jvm.Cond.instanceMethod ({ cls := "AcousticCameraModel", name := "delayTo", desc := "(III)I" } : Jvm.MethodName)) ∈ lw_all := lw_g (lw_at lw_m14 49 rfl) rfl
theorem q3306 : (Jvm.Cond.selects "AcousticCameraModel" ({ cls := "AcousticCameraModel", name := "delayTo", desc := "(III)I" } : Jvm.MethodName) ({ cls := "AcousticCameraModel", name := "delayTo", desc := "(III)I" } : Jvm.MethodName)) ∈ lw_all := lw_g (lw_at lw_m14 50 rfl) rfl
theorem q3307 : (Jvm.Cond.code ({ cls := "AcousticCameraModel", name := "delayTo", desc := "(III)I" } : Jvm.MethodName) prog_15_method_82_code (4 : Nat) (Option.some Jvm.ClassFile.FieldType.int)) ∈ lw_all := lw_g (lw_at lw_m14 51 rfl) rfl
theorem q3308 : (Jvm.Cond.methodLink "AcousticCameraModel" (353 : Nat) ({ cls := "AcousticCameraModel", name := "isPoint", desc := "(II)Z" } : Jvm.MethodName)) ∈ lw_all := lw_g (lw_at lw_m14 52 rfl) rfl
theorem q3309 : (Jvm.Cond.static ({ cls := "AcousticCameraModel", name := "isPoint", desc := "(II)Z" } : Jvm.MethodName)) ∈ lw_all := lw_g (lw_at lw_m14 53 rfl) rfl
theorem q3310 : (Jvm.Cond.code ({ cls := "AcousticCameraModel", name := "isPoint", desc := "(II)Z" } : Jvm.MethodName) prog_15_method_81_code (2 : Nat) (Option.some Jvm.ClassFile.FieldType.boolean)) ∈ lw_all := lw_g (lw_at lw_m14 54 rfl) rfl
theorem q3312 : (Jvm.Cond.instanceMethod ({ cls := "AcousticCameraModel", name := "spread", desc := "(I)I" } : Jvm.MethodName)) ∈ lw_all := lw_g (lw_at lw_m14 56 rfl) rfl
theorem q3313 : (Jvm.Cond.selects "AcousticCameraModel" ({ cls := "AcousticCameraModel", name := "spread", desc := "(I)I" } : Jvm.MethodName) ({ cls := "AcousticCameraModel", name := "spread", desc := "(I)I" } : Jvm.MethodName)) ∈ lw_all := lw_g (lw_at lw_m14 57 rfl) rfl
theorem q3314 : (Jvm.Cond.code ({ cls := "AcousticCameraModel", name := "spread", desc := "(I)I" } : Jvm.MethodName) prog_15_method_84_code (5 : Nat) (Option.some Jvm.ClassFile.FieldType.int)) ∈ lw_all := lw_g (lw_at lw_m14 58 rfl) rfl
theorem q3315 : (Jvm.Cond.methodLink "AcousticCameraModel" (357 : Nat) ({ cls := "AcousticCameraModel", name := "activeCount", desc := "()I" } : Jvm.MethodName)) ∈ lw_all := lw_g (lw_at lw_m14 59 rfl) rfl
theorem q3316 : (Jvm.Cond.privateMethod ({ cls := "AcousticCameraModel", name := "activeCount", desc := "()I" } : Jvm.MethodName)) ∈ lw_tbl := lw_at lw_m14 60 rfl
theorem q3317 : (Jvm.Cond.instanceMethod ({ cls := "AcousticCameraModel", name := "activeCount", desc := "()I" } : Jvm.MethodName)) ∈ lw_all := lw_g (lw_at lw_m14 61 rfl) rfl
theorem q3318 : (Jvm.Cond.code ({ cls := "AcousticCameraModel", name := "activeCount", desc := "()I" } : Jvm.MethodName) prog_15_method_83_code (3 : Nat) (Option.some Jvm.ClassFile.FieldType.int)) ∈ lw_all := lw_g (lw_at lw_m14 62 rfl) rfl
theorem q3319 : (Jvm.Cond.constant "AcousticCameraModel" (362 : Nat) (2147483647 : Int32)) ∈ lw_all := lw_g (lw_at lw_m14 63 rfl) rfl
theorem q3321 : (Jvm.Cond.instanceMethod ({ cls := "AcousticCameraModel", name := "window", desc := "(I)I" } : Jvm.MethodName)) ∈ lw_all := lw_g (lw_at lw_m14 65 rfl) rfl
theorem q3322 : (Jvm.Cond.selects "AcousticCameraModel" ({ cls := "AcousticCameraModel", name := "window", desc := "(I)I" } : Jvm.MethodName) ({ cls := "AcousticCameraModel", name := "window", desc := "(I)I" } : Jvm.MethodName)) ∈ lw_all := lw_g (lw_at lw_m14 66 rfl) rfl
theorem q3323 : (Jvm.Cond.code ({ cls := "AcousticCameraModel", name := "window", desc := "(I)I" } : Jvm.MethodName) prog_15_method_85_code (2 : Nat) (Option.some Jvm.ClassFile.FieldType.int)) ∈ lw_all := lw_g (lw_at lw_m14 67 rfl) rfl
theorem q3324 : (Jvm.Cond.methodLink "AcousticCameraModel" (320 : Nat) ({ cls := "AcousticCameraModel", name := "laysCell", desc := "(I)V" } : Jvm.MethodName)) ∈ lw_all := lw_g (lw_at lw_m14 68 rfl) rfl
theorem q3325 : (Jvm.Cond.privateMethod ({ cls := "AcousticCameraModel", name := "laysCell", desc := "(I)V" } : Jvm.MethodName)) ∈ lw_tbl := lw_at lw_m14 69 rfl
theorem q3326 : (Jvm.Cond.instanceMethod ({ cls := "AcousticCameraModel", name := "laysCell", desc := "(I)V" } : Jvm.MethodName)) ∈ lw_all := lw_g (lw_at lw_m14 70 rfl) rfl
theorem q3327 : (Jvm.Cond.code ({ cls := "AcousticCameraModel", name := "laysCell", desc := "(I)V" } : Jvm.MethodName) prog_15_method_52_code (3 : Nat) (Option.none : Option Jvm.ClassFile.FieldType)) ∈ lw_all := lw_g (lw_at lw_m14 71 rfl) rfl
theorem q3328 : (Jvm.Cond.methodLink "AcousticCameraModel" (312 : Nat) ({ cls := "AcousticCameraModel", name := "windowOf", desc := "([I)I" } : Jvm.MethodName)) ∈ lw_all := lw_g (lw_at lw_m14 72 rfl) rfl
theorem q3329 : (Jvm.Cond.privateMethod ({ cls := "AcousticCameraModel", name := "windowOf", desc := "([I)I" } : Jvm.MethodName)) ∈ lw_tbl := lw_at lw_m14 73 rfl
theorem q3330 : (Jvm.Cond.instanceMethod ({ cls := "AcousticCameraModel", name := "windowOf", desc := "([I)I" } : Jvm.MethodName)) ∈ lw_all := lw_g (lw_at lw_m14 74 rfl) rfl
theorem q3331 : (Jvm.Cond.code ({ cls := "AcousticCameraModel", name := "windowOf", desc := "([I)I" } : Jvm.MethodName) prog_15_method_55_code (4 : Nat) (Option.some Jvm.ClassFile.FieldType.int)) ∈ lw_all := lw_g (lw_at lw_m14 75 rfl) rfl
theorem q3333 : (Jvm.Cond.instanceMethod ({ cls := "AcousticCameraModel", name := "sample", desc := "(II)I" } : Jvm.MethodName)) ∈ lw_all := lw_g (lw_at lw_m14 77 rfl) rfl
theorem q3334 : (Jvm.Cond.selects "AcousticCameraModel" ({ cls := "AcousticCameraModel", name := "sample", desc := "(II)I" } : Jvm.MethodName) ({ cls := "AcousticCameraModel", name := "sample", desc := "(II)I" } : Jvm.MethodName)) ∈ lw_all := lw_g (lw_at lw_m14 78 rfl) rfl
theorem q3335 : (Jvm.Cond.code ({ cls := "AcousticCameraModel", name := "sample", desc := "(II)I" } : Jvm.MethodName) prog_15_method_86_code (3 : Nat) (Option.some Jvm.ClassFile.FieldType.int)) ∈ lw_all := lw_g (lw_at lw_m14 79 rfl) rfl
theorem q3337 : (Jvm.Cond.instanceMethod ({ cls := "AcousticCameraModel", name := "beam", desc := "(II)I" } : Jvm.MethodName)) ∈ lw_all := lw_g (lw_at lw_m14 81 rfl) rfl
theorem q3338 : (Jvm.Cond.selects "AcousticCameraModel" ({ cls := "AcousticCameraModel", name := "beam", desc := "(II)I" } : Jvm.MethodName) ({ cls := "AcousticCameraModel", name := "beam", desc := "(II)I" } : Jvm.MethodName)) ∈ lw_all := lw_g (lw_at lw_m14 82 rfl) rfl
theorem q3339 : (Jvm.Cond.code ({ cls := "AcousticCameraModel", name := "beam", desc := "(II)I" } : Jvm.MethodName) prog_15_method_87_code (3 : Nat) (Option.some Jvm.ClassFile.FieldType.int)) ∈ lw_all := lw_g (lw_at lw_m14 83 rfl) rfl
theorem q3340 : (Jvm.Cond.methodLink "AcousticCameraModel" (308 : Nat) ({ cls := "AcousticCameraModel", name := "beamAt", desc := "([II)I" } : Jvm.MethodName)) ∈ lw_all := lw_g (lw_at lw_m14 84 rfl) rfl
theorem q3341 : (Jvm.Cond.privateMethod ({ cls := "AcousticCameraModel", name := "beamAt", desc := "([II)I" } : Jvm.MethodName)) ∈ lw_tbl := lw_at lw_m14 85 rfl
theorem q3342 : (Jvm.Cond.instanceMethod ({ cls := "AcousticCameraModel", name := "beamAt", desc := "([II)I" } : Jvm.MethodName)) ∈ lw_all := lw_g (lw_at lw_m14 86 rfl) rfl
theorem q3343 : (Jvm.Cond.code ({ cls := "AcousticCameraModel", name := "beamAt", desc := "([II)I" } : Jvm.MethodName) prog_15_method_56_code (5 : Nat) (Option.some Jvm.ClassFile.FieldType.int)) ∈ lw_all := lw_g (lw_at lw_m14 87 rfl) rfl
theorem q3345 : (Jvm.Cond.instanceMethod ({ cls := "AcousticCameraModel", name := "power", desc := "(I)J" } : Jvm.MethodName)) ∈ lw_all := lw_g (lw_at lw_m14 89 rfl) rfl
theorem q3346 : (Jvm.Cond.selects "AcousticCameraModel" ({ cls := "AcousticCameraModel", name := "power", desc := "(I)J" } : Jvm.MethodName) ({ cls := "AcousticCameraModel", name := "power", desc := "(I)J" } : Jvm.MethodName)) ∈ lw_all := lw_g (lw_at lw_m14 90 rfl) rfl
theorem q3347 : (Jvm.Cond.code ({ cls := "AcousticCameraModel", name := "power", desc := "(I)J" } : Jvm.MethodName) prog_15_method_88_code (2 : Nat) (Option.some Jvm.ClassFile.FieldType.long)) ∈ lw_all := lw_g (lw_at lw_m14 91 rfl) rfl
theorem q3348 : (Jvm.Cond.methodLink "AcousticCameraModel" (327 : Nat) ({ cls := "AcousticCameraModel", name := "powerOf", desc := "([II)J" } : Jvm.MethodName)) ∈ lw_all := lw_g (lw_at lw_m14 92 rfl) rfl
theorem q3349 : (Jvm.Cond.privateMethod ({ cls := "AcousticCameraModel", name := "powerOf", desc := "([II)J" } : Jvm.MethodName)) ∈ lw_tbl := lw_at lw_m14 93 rfl
theorem q3350 : (Jvm.Cond.instanceMethod ({ cls := "AcousticCameraModel", name := "powerOf", desc := "([II)J" } : Jvm.MethodName)) ∈ lw_all := lw_g (lw_at lw_m14 94 rfl) rfl
theorem q3351 : (Jvm.Cond.code ({ cls := "AcousticCameraModel", name := "powerOf", desc := "([II)J" } : Jvm.MethodName) prog_15_method_59_code (3 : Nat) (Option.some Jvm.ClassFile.FieldType.long)) ∈ lw_all := lw_g (lw_at lw_m14 95 rfl) rfl
theorem q3352 : (Jvm.Cond.methodLink "AcousticCameraModel" (323 : Nat) ({ cls := "AcousticCameraModel", name := "powerHere", desc := "([I)J" } : Jvm.MethodName)) ∈ lw_all := lw_g (lw_at lw_m14 96 rfl) rfl
theorem q3353 : (Jvm.Cond.privateMethod ({ cls := "AcousticCameraModel", name := "powerHere", desc := "([I)J" } : Jvm.MethodName)) ∈ lw_tbl := lw_at lw_m14 97 rfl
theorem q3354 : (Jvm.Cond.instanceMethod ({ cls := "AcousticCameraModel", name := "powerHere", desc := "([I)J" } : Jvm.MethodName)) ∈ lw_all := lw_g (lw_at lw_m14 98 rfl) rfl
theorem q3355 : (Jvm.Cond.code ({ cls := "AcousticCameraModel", name := "powerHere", desc := "([I)J" } : Jvm.MethodName) prog_15_method_58_code (3 : Nat) (Option.some Jvm.ClassFile.FieldType.long)) ∈ lw_all := lw_g (lw_at lw_m14 99 rfl) rfl
theorem q3356 : (Jvm.Cond.methodLink "AcousticCameraModel" (316 : Nat) ({ cls := "AcousticCameraModel", name := "energy", desc := "([III)J" } : Jvm.MethodName)) ∈ lw_all := lw_g (lw_at lw_m14 100 rfl) rfl
theorem q3357 : (Jvm.Cond.privateMethod ({ cls := "AcousticCameraModel", name := "energy", desc := "([III)J" } : Jvm.MethodName)) ∈ lw_tbl := lw_at lw_m14 101 rfl
theorem q3358 : (Jvm.Cond.instanceMethod ({ cls := "AcousticCameraModel", name := "energy", desc := "([III)J" } : Jvm.MethodName)) ∈ lw_all := lw_g (lw_at lw_m14 102 rfl) rfl
theorem q3359 : (Jvm.Cond.code ({ cls := "AcousticCameraModel", name := "energy", desc := "([III)J" } : Jvm.MethodName) prog_15_method_57_code (9 : Nat) (Option.some Jvm.ClassFile.FieldType.long)) ∈ lw_all := lw_g (lw_at lw_m14 103 rfl) rfl
theorem q3361 : (Jvm.Cond.instanceMethod ({ cls := "AcousticCameraModel", name := "powerAt", desc := "(II)J" } : Jvm.MethodName)) ∈ lw_all := lw_g (lw_at lw_m14 105 rfl) rfl
theorem q3362 : (Jvm.Cond.selects "AcousticCameraModel" ({ cls := "AcousticCameraModel", name := "powerAt", desc := "(II)J" } : Jvm.MethodName) ({ cls := "AcousticCameraModel", name := "powerAt", desc := "(II)J" } : Jvm.MethodName)) ∈ lw_all := lw_g (lw_at lw_m14 106 rfl) rfl
theorem q3363 : (Jvm.Cond.code ({ cls := "AcousticCameraModel", name := "powerAt", desc := "(II)J" } : Jvm.MethodName) prog_15_method_89_code (3 : Nat) (Option.some Jvm.ClassFile.FieldType.long)) ∈ lw_all := lw_g (lw_at lw_m14 107 rfl) rfl
theorem q3364 : (Jvm.Cond.methodLink "AcousticCameraModel" (363 : Nat) ({ cls := "AcousticCameraModel", name := "laysPoint", desc := "(II)V" } : Jvm.MethodName)) ∈ lw_all := lw_g (lw_at lw_m14 108 rfl) rfl
theorem q3365 : (Jvm.Cond.privateMethod ({ cls := "AcousticCameraModel", name := "laysPoint", desc := "(II)V" } : Jvm.MethodName)) ∈ lw_tbl := lw_at lw_m14 109 rfl
theorem q3366 : (Jvm.Cond.instanceMethod ({ cls := "AcousticCameraModel", name := "laysPoint", desc := "(II)V" } : Jvm.MethodName)) ∈ lw_all := lw_g (lw_at lw_m14 110 rfl) rfl
theorem q3367 : (Jvm.Cond.code ({ cls := "AcousticCameraModel", name := "laysPoint", desc := "(II)V" } : Jvm.MethodName) prog_15_method_53_code (4 : Nat) (Option.none : Option Jvm.ClassFile.FieldType)) ∈ lw_all := lw_g (lw_at lw_m14 111 rfl) rfl
theorem q3369 : (Jvm.Cond.instanceMethod ({ cls := "AcousticCameraModel", name := "best", desc := "()I" } : Jvm.MethodName)) ∈ lw_all := lw_g (lw_at lw_m14 113 rfl) rfl
theorem q3370 : (Jvm.Cond.selects "AcousticCameraModel" ({ cls := "AcousticCameraModel", name := "best", desc := "()I" } : Jvm.MethodName) ({ cls := "AcousticCameraModel", name := "best", desc := "()I" } : Jvm.MethodName)) ∈ lw_all := lw_g (lw_at lw_m14 114 rfl) rfl
theorem q3371 : (Jvm.Cond.code ({ cls := "AcousticCameraModel", name := "best", desc := "()I" } : Jvm.MethodName) prog_15_method_90_code (1 : Nat) (Option.some Jvm.ClassFile.FieldType.int)) ∈ lw_all := lw_g (lw_at lw_m14 115 rfl) rfl
theorem q3372 : (Jvm.Cond.methodLink "AcousticCameraModel" (367 : Nat) ({ cls := "AcousticCameraModel", name := "bestIn", desc := "([I)I" } : Jvm.MethodName)) ∈ lw_all := lw_g (lw_at lw_m14 116 rfl) rfl
theorem q3373 : (Jvm.Cond.privateMethod ({ cls := "AcousticCameraModel", name := "bestIn", desc := "([I)I" } : Jvm.MethodName)) ∈ lw_tbl := lw_at lw_m14 117 rfl
theorem q3374 : (Jvm.Cond.instanceMethod ({ cls := "AcousticCameraModel", name := "bestIn", desc := "([I)I" } : Jvm.MethodName)) ∈ lw_all := lw_g (lw_at lw_m14 118 rfl) rfl
theorem q3375 : (Jvm.Cond.code ({ cls := "AcousticCameraModel", name := "bestIn", desc := "([I)I" } : Jvm.MethodName) prog_15_method_61_code (4 : Nat) (Option.some Jvm.ClassFile.FieldType.int)) ∈ lw_all := lw_g (lw_at lw_m14 119 rfl) rfl
theorem q3376 : (Jvm.Cond.methodLink "AcousticCameraModel" (331 : Nat) ({ cls := "AcousticCameraModel", name := "laysPowers", desc := "([I)V" } : Jvm.MethodName)) ∈ lw_all := lw_g (lw_at lw_m14 120 rfl) rfl
theorem q3377 : (Jvm.Cond.privateMethod ({ cls := "AcousticCameraModel", name := "laysPowers", desc := "([I)V" } : Jvm.MethodName)) ∈ lw_tbl := lw_at lw_m14 121 rfl
theorem q3378 : (Jvm.Cond.instanceMethod ({ cls := "AcousticCameraModel", name := "laysPowers", desc := "([I)V" } : Jvm.MethodName)) ∈ lw_all := lw_g (lw_at lw_m14 122 rfl) rfl
theorem q3379 : (Jvm.Cond.code ({ cls := "AcousticCameraModel", name := "laysPowers", desc := "([I)V" } : Jvm.MethodName) prog_15_method_60_code (3 : Nat) (Option.none : Option Jvm.ClassFile.FieldType)) ∈ lw_all := lw_g (lw_at lw_m14 123 rfl) rfl
theorem q3381 : (Jvm.Cond.instanceMethod ({ cls := "AcousticCameraModel", name := "bestPower", desc := "()J" } : Jvm.MethodName)) ∈ lw_all := lw_g (lw_at lw_m14 125 rfl) rfl
theorem q3382 : (Jvm.Cond.selects "AcousticCameraModel" ({ cls := "AcousticCameraModel", name := "bestPower", desc := "()J" } : Jvm.MethodName) ({ cls := "AcousticCameraModel", name := "bestPower", desc := "()J" } : Jvm.MethodName)) ∈ lw_all := lw_g (lw_at lw_m14 126 rfl) rfl
theorem q3383 : (Jvm.Cond.code ({ cls := "AcousticCameraModel", name := "bestPower", desc := "()J" } : Jvm.MethodName) prog_15_method_91_code (1 : Nat) (Option.some Jvm.ClassFile.FieldType.long)) ∈ lw_all := lw_g (lw_at lw_m14 127 rfl) rfl
theorem q3385 : (Jvm.Cond.instanceMethod ({ cls := "AcousticCameraModel", name := "meanPower", desc := "()J" } : Jvm.MethodName)) ∈ lw_all := lw_g (lw_at lw_m14 129 rfl) rfl
theorem q3386 : (Jvm.Cond.selects "AcousticCameraModel" ({ cls := "AcousticCameraModel", name := "meanPower", desc := "()J" } : Jvm.MethodName) ({ cls := "AcousticCameraModel", name := "meanPower", desc := "()J" } : Jvm.MethodName)) ∈ lw_all := lw_g (lw_at lw_m14 130 rfl) rfl
theorem q3387 : (Jvm.Cond.code ({ cls := "AcousticCameraModel", name := "meanPower", desc := "()J" } : Jvm.MethodName) prog_15_method_92_code (4 : Nat) (Option.some Jvm.ClassFile.FieldType.long)) ∈ lw_all := lw_g (lw_at lw_m14 131 rfl) rfl
theorem q3389 : (Jvm.Cond.instanceMethod ({ cls := "AcousticCameraModel", name := "peaks", desc := "()I" } : Jvm.MethodName)) ∈ lw_all := lw_g (lw_at lw_m14 133 rfl) rfl
theorem q3390 : (Jvm.Cond.selects "AcousticCameraModel" ({ cls := "AcousticCameraModel", name := "peaks", desc := "()I" } : Jvm.MethodName) ({ cls := "AcousticCameraModel", name := "peaks", desc := "()I" } : Jvm.MethodName)) ∈ lw_all := lw_g (lw_at lw_m14 134 rfl) rfl
theorem q3391 : (Jvm.Cond.code ({ cls := "AcousticCameraModel", name := "peaks", desc := "()I" } : Jvm.MethodName) prog_15_method_94_code (3 : Nat) (Option.some Jvm.ClassFile.FieldType.int)) ∈ lw_all := lw_g (lw_at lw_m14 135 rfl) rfl
theorem q3392 : (Jvm.Cond.methodLink "AcousticCameraModel" (370 : Nat) ({ cls := "AcousticCameraModel", name := "isTop", desc := "(I)Z" } : Jvm.MethodName)) ∈ lw_all := lw_g (lw_at lw_m14 136 rfl) rfl
theorem q3393 : (Jvm.Cond.privateMethod ({ cls := "AcousticCameraModel", name := "isTop", desc := "(I)Z" } : Jvm.MethodName)) ∈ lw_tbl := lw_at lw_m14 137 rfl
theorem q3394 : (Jvm.Cond.instanceMethod ({ cls := "AcousticCameraModel", name := "isTop", desc := "(I)Z" } : Jvm.MethodName)) ∈ lw_all := lw_g (lw_at lw_m14 138 rfl) rfl
theorem q3395 : (Jvm.Cond.code ({ cls := "AcousticCameraModel", name := "isTop", desc := "(I)Z" } : Jvm.MethodName) prog_15_method_93_code (7 : Nat) (Option.some Jvm.ClassFile.FieldType.boolean)) ∈ lw_all := lw_g (lw_at lw_m14 139 rfl) rfl
theorem q3397 : (Jvm.Cond.instanceMethod ({ cls := "AcousticCameraModel", name := "peakAt", desc := "(I)I" } : Jvm.MethodName)) ∈ lw_all := lw_g (lw_at lw_m14 141 rfl) rfl
theorem q3398 : (Jvm.Cond.selects "AcousticCameraModel" ({ cls := "AcousticCameraModel", name := "peakAt", desc := "(I)I" } : Jvm.MethodName) ({ cls := "AcousticCameraModel", name := "peakAt", desc := "(I)I" } : Jvm.MethodName)) ∈ lw_all := lw_g (lw_at lw_m14 142 rfl) rfl
theorem q3399 : (Jvm.Cond.code ({ cls := "AcousticCameraModel", name := "peakAt", desc := "(I)I" } : Jvm.MethodName) prog_15_method_96_code (5 : Nat) (Option.some Jvm.ClassFile.FieldType.int)) ∈ lw_all := lw_g (lw_at lw_m14 143 rfl) rfl
theorem q3400 : (Jvm.Cond.methodLink "AcousticCameraModel" (373 : Nat) ({ cls := "AcousticCameraModel", name := "isGreater", desc := "(II)Z" } : Jvm.MethodName)) ∈ lw_all := lw_g (lw_at lw_m14 144 rfl) rfl
theorem q3401 : (Jvm.Cond.privateMethod ({ cls := "AcousticCameraModel", name := "isGreater", desc := "(II)Z" } : Jvm.MethodName)) ∈ lw_tbl := lw_at lw_m14 145 rfl
theorem q3402 : (Jvm.Cond.instanceMethod ({ cls := "AcousticCameraModel", name := "isGreater", desc := "(II)Z" } : Jvm.MethodName)) ∈ lw_all := lw_g (lw_at lw_m14 146 rfl) rfl
theorem q3403 : (Jvm.Cond.code ({ cls := "AcousticCameraModel", name := "isGreater", desc := "(II)Z" } : Jvm.MethodName) prog_15_method_95_code (3 : Nat) (Option.some Jvm.ClassFile.FieldType.boolean)) ∈ lw_all := lw_g (lw_at lw_m14 147 rfl) rfl
theorem q3405 : (Jvm.Cond.instanceMethod ({ cls := "AcousticCameraModel", name := "isPeak", desc := "(I)Z" } : Jvm.MethodName)) ∈ lw_all := lw_g (lw_at lw_m14 149 rfl) rfl
theorem q3406 : (Jvm.Cond.selects "AcousticCameraModel" ({ cls := "AcousticCameraModel", name := "isPeak", desc := "(I)Z" } : Jvm.MethodName) ({ cls := "AcousticCameraModel", name := "isPeak", desc := "(I)Z" } : Jvm.MethodName)) ∈ lw_all := lw_g (lw_at lw_m14 150 rfl) rfl
theorem q3407 : (Jvm.Cond.code ({ cls := "AcousticCameraModel", name := "isPeak", desc := "(I)Z" } : Jvm.MethodName) prog_15_method_97_code (2 : Nat) (Option.some Jvm.ClassFile.FieldType.boolean)) ∈ lw_all := lw_g (lw_at lw_m14 151 rfl) rfl
theorem q3409 : (Jvm.Cond.instanceMethod ({ cls := "AcousticCameraModel", name := "contrast", desc := "()F" } : Jvm.MethodName)) ∈ lw_all := lw_g (lw_at lw_m14 153 rfl) rfl
theorem q3410 : (Jvm.Cond.selects "AcousticCameraModel" ({ cls := "AcousticCameraModel", name := "contrast", desc := "()F" } : Jvm.MethodName) ({ cls := "AcousticCameraModel", name := "contrast", desc := "()F" } : Jvm.MethodName)) ∈ lw_all := lw_g (lw_at lw_m14 154 rfl) rfl
theorem q3411 : (Jvm.Cond.code ({ cls := "AcousticCameraModel", name := "contrast", desc := "()F" } : Jvm.MethodName) prog_15_method_98_code (5 : Nat) (Option.some Jvm.ClassFile.FieldType.float)) ∈ lw_all := lw_g (lw_at lw_m14 155 rfl) rfl
theorem q3412 : (Jvm.Cond.methodLink "AcousticCameraModel" (376 : Nat) ({ cls := "java/lang/Math", name := "max", desc := "(JJ)J" } : Jvm.MethodName)) ∈ lw_all := lw_g (lw_at lw_m14 156 rfl) rfl
theorem q3416 : (Jvm.Cond.instanceMethod ({ cls := "AcousticCameraModel", name := "alias", desc := "(III)I" } : Jvm.MethodName)) ∈ lw_all := lw_g (lw_at lw_m14 160 rfl) rfl
theorem q3417 : (Jvm.Cond.selects "AcousticCameraModel" ({ cls := "AcousticCameraModel", name := "alias", desc := "(III)I" } : Jvm.MethodName) ({ cls := "AcousticCameraModel", name := "alias", desc := "(III)I" } : Jvm.MethodName)) ∈ lw_all := lw_g (lw_at lw_m14 161 rfl) rfl
theorem q3418 : (Jvm.Cond.code ({ cls := "AcousticCameraModel", name := "alias", desc := "(III)I" } : Jvm.MethodName) prog_15_method_101_code (4 : Nat) (Option.some Jvm.ClassFile.FieldType.int)) ∈ lw_all := lw_g (lw_at lw_m14 162 rfl) rfl
theorem q3419 : (Jvm.Cond.methodLink "AcousticCameraModel" (382 : Nat) ({ cls := "AcousticCameraModel", name := "isPeriod", desc := "(I)Z" } : Jvm.MethodName)) ∈ lw_all := lw_g (lw_at lw_m14 163 rfl) rfl
theorem q3420 : (Jvm.Cond.static ({ cls := "AcousticCameraModel", name := "isPeriod", desc := "(I)Z" } : Jvm.MethodName)) ∈ lw_all := lw_g (lw_at lw_m14 164 rfl) rfl
theorem q3421 : (Jvm.Cond.code ({ cls := "AcousticCameraModel", name := "isPeriod", desc := "(I)Z" } : Jvm.MethodName) prog_15_method_68_code (1 : Nat) (Option.some Jvm.ClassFile.FieldType.boolean)) ∈ lw_all := lw_g (lw_at lw_m14 165 rfl) rfl
theorem q3422 : (Jvm.Cond.methodLink "AcousticCameraModel" (385 : Nat) ({ cls := "AcousticCameraModel", name := "confusion", desc := "(III)I" } : Jvm.MethodName)) ∈ lw_all := lw_g (lw_at lw_m14 166 rfl) rfl
theorem q3423 : (Jvm.Cond.privateMethod ({ cls := "AcousticCameraModel", name := "confusion", desc := "(III)I" } : Jvm.MethodName)) ∈ lw_tbl := lw_at lw_m14 167 rfl
theorem q3424 : (Jvm.Cond.instanceMethod ({ cls := "AcousticCameraModel", name := "confusion", desc := "(III)I" } : Jvm.MethodName)) ∈ lw_all := lw_g (lw_at lw_m14 168 rfl) rfl
theorem q3425 : (Jvm.Cond.code ({ cls := "AcousticCameraModel", name := "confusion", desc := "(III)I" } : Jvm.MethodName) prog_15_method_99_code (8 : Nat) (Option.some Jvm.ClassFile.FieldType.int)) ∈ lw_all := lw_g (lw_at lw_m14 169 rfl) rfl
theorem q3426 : (Jvm.Cond.methodLink "AcousticCameraModel" (379 : Nat) ({ cls := "AcousticCameraModel", name := "shift", desc := "(III)I" } : Jvm.MethodName)) ∈ lw_all := lw_g (lw_at lw_m14 170 rfl) rfl
theorem q3427 : (Jvm.Cond.privateMethod ({ cls := "AcousticCameraModel", name := "shift", desc := "(III)I" } : Jvm.MethodName)) ∈ lw_tbl := lw_at lw_m14 171 rfl
theorem q3428 : (Jvm.Cond.instanceMethod ({ cls := "AcousticCameraModel", name := "shift", desc := "(III)I" } : Jvm.MethodName)) ∈ lw_all := lw_g (lw_at lw_m14 172 rfl) rfl
theorem q3429 : (Jvm.Cond.code ({ cls := "AcousticCameraModel", name := "shift", desc := "(III)I" } : Jvm.MethodName) prog_15_method_100_code (4 : Nat) (Option.some Jvm.ClassFile.FieldType.int)) ∈ lw_all := lw_g (lw_at lw_m14 173 rfl) rfl
theorem q3431 : (Jvm.Cond.instanceMethod ({ cls := "AcousticCameraModel", name := "isAlias", desc := "(III)Z" } : Jvm.MethodName)) ∈ lw_all := lw_g (lw_at lw_m14 175 rfl) rfl
theorem q3432 : (Jvm.Cond.selects "AcousticCameraModel" ({ cls := "AcousticCameraModel", name := "isAlias", desc := "(III)Z" } : Jvm.MethodName) ({ cls := "AcousticCameraModel", name := "isAlias", desc := "(III)Z" } : Jvm.MethodName)) ∈ lw_all := lw_g (lw_at lw_m14 176 rfl) rfl
theorem q3433 : (Jvm.Cond.code ({ cls := "AcousticCameraModel", name := "isAlias", desc := "(III)Z" } : Jvm.MethodName) prog_15_method_104_code (4 : Nat) (Option.some Jvm.ClassFile.FieldType.boolean)) ∈ lw_all := lw_g (lw_at lw_m14 177 rfl) rfl
theorem q3434 : (Jvm.Cond.methodLink "AcousticCameraModel" (388 : Nat) ({ cls := "AcousticCameraModel", name := "isShare", desc := "(I)Z" } : Jvm.MethodName)) ∈ lw_all := lw_g (lw_at lw_m14 178 rfl) rfl
theorem q3435 : (Jvm.Cond.static ({ cls := "AcousticCameraModel", name := "isShare", desc := "(I)Z" } : Jvm.MethodName)) ∈ lw_all := lw_g (lw_at lw_m14 179 rfl) rfl
theorem q3436 : (Jvm.Cond.code ({ cls := "AcousticCameraModel", name := "isShare", desc := "(I)Z" } : Jvm.MethodName) prog_15_method_103_code (1 : Nat) (Option.some Jvm.ClassFile.FieldType.boolean)) ∈ lw_all := lw_g (lw_at lw_m14 180 rfl) rfl
theorem q3437 : (Jvm.Cond.methodLink "AcousticCameraModel" (391 : Nat) ({ cls := "AcousticCameraModel", name := "isMark", desc := "(IIII)Z" } : Jvm.MethodName)) ∈ lw_all := lw_g (lw_at lw_m14 181 rfl) rfl
theorem q3438 : (Jvm.Cond.privateMethod ({ cls := "AcousticCameraModel", name := "isMark", desc := "(IIII)Z" } : Jvm.MethodName)) ∈ lw_tbl := lw_at lw_m14 182 rfl
theorem q3439 : (Jvm.Cond.instanceMethod ({ cls := "AcousticCameraModel", name := "isMark", desc := "(IIII)Z" } : Jvm.MethodName)) ∈ lw_all := lw_g (lw_at lw_m14 183 rfl) rfl
theorem q3440 : (Jvm.Cond.code ({ cls := "AcousticCameraModel", name := "isMark", desc := "(IIII)Z" } : Jvm.MethodName) prog_15_method_102_code (5 : Nat) (Option.some Jvm.ClassFile.FieldType.boolean)) ∈ lw_all := lw_g (lw_at lw_m14 184 rfl) rfl
theorem q3442 : (Jvm.Cond.instanceMethod ({ cls := "AcousticCameraModel", name := "aliases", desc := "(II)I" } : Jvm.MethodName)) ∈ lw_all := lw_g (lw_at lw_m14 186 rfl) rfl
theorem q3443 : (Jvm.Cond.selects "AcousticCameraModel" ({ cls := "AcousticCameraModel", name := "aliases", desc := "(II)I" } : Jvm.MethodName) ({ cls := "AcousticCameraModel", name := "aliases", desc := "(II)I" } : Jvm.MethodName)) ∈ lw_all := lw_g (lw_at lw_m14 187 rfl) rfl
theorem q3444 : (Jvm.Cond.code ({ cls := "AcousticCameraModel", name := "aliases", desc := "(II)I" } : Jvm.MethodName) prog_15_method_105_code (6 : Nat) (Option.some Jvm.ClassFile.FieldType.int)) ∈ lw_all := lw_g (lw_at lw_m14 188 rfl) rfl
theorem q3446 : (Jvm.Cond.instanceMethod ({ cls := "AcousticCameraModel", name := "blockPower", desc := "(III)J" } : Jvm.MethodName)) ∈ lw_all := lw_g (lw_at lw_m14 190 rfl) rfl
theorem q3447 : (Jvm.Cond.selects "AcousticCameraModel" ({ cls := "AcousticCameraModel", name := "blockPower", desc := "(III)J" } : Jvm.MethodName) ({ cls := "AcousticCameraModel", name := "blockPower", desc := "(III)J" } : Jvm.MethodName)) ∈ lw_all := lw_g (lw_at lw_m14 191 rfl) rfl
theorem q3448 : (Jvm.Cond.code ({ cls := "AcousticCameraModel", name := "blockPower", desc := "(III)J" } : Jvm.MethodName) prog_15_method_108_code (4 : Nat) (Option.some Jvm.ClassFile.FieldType.long)) ∈ lw_all := lw_g (lw_at lw_m14 192 rfl) rfl
theorem q3449 : (Jvm.Cond.methodLink "AcousticCameraModel" (395 : Nat) ({ cls := "AcousticCameraModel", name := "isBlock", desc := "(II)Z" } : Jvm.MethodName)) ∈ lw_all := lw_g (lw_at lw_m14 193 rfl) rfl
theorem q3450 : (Jvm.Cond.privateMethod ({ cls := "AcousticCameraModel", name := "isBlock", desc := "(II)Z" } : Jvm.MethodName)) ∈ lw_tbl := lw_at lw_m14 194 rfl
theorem q3451 : (Jvm.Cond.instanceMethod ({ cls := "AcousticCameraModel", name := "isBlock", desc := "(II)Z" } : Jvm.MethodName)) ∈ lw_all := lw_g (lw_at lw_m14 195 rfl) rfl
theorem q3452 : (Jvm.Cond.code ({ cls := "AcousticCameraModel", name := "isBlock", desc := "(II)Z" } : Jvm.MethodName) prog_15_method_107_code (3 : Nat) (Option.some Jvm.ClassFile.FieldType.boolean)) ∈ lw_all := lw_g (lw_at lw_m14 196 rfl) rfl
theorem q3453 : (Jvm.Cond.methodLink "AcousticCameraModel" (398 : Nat) ({ cls := "AcousticCameraModel", name := "blockOf", desc := "(III)J" } : Jvm.MethodName)) ∈ lw_all := lw_g (lw_at lw_m14 197 rfl) rfl
theorem q3454 : (Jvm.Cond.privateMethod ({ cls := "AcousticCameraModel", name := "blockOf", desc := "(III)J" } : Jvm.MethodName)) ∈ lw_tbl := lw_at lw_m14 198 rfl
theorem q3455 : (Jvm.Cond.instanceMethod ({ cls := "AcousticCameraModel", name := "blockOf", desc := "(III)J" } : Jvm.MethodName)) ∈ lw_all := lw_g (lw_at lw_m14 199 rfl) rfl
theorem q3456 : (Jvm.Cond.code ({ cls := "AcousticCameraModel", name := "blockOf", desc := "(III)J" } : Jvm.MethodName) prog_15_method_106_code (4 : Nat) (Option.some Jvm.ClassFile.FieldType.long)) ∈ lw_all := lw_g (lw_at lw_m14 200 rfl) rfl
theorem q3458 : (Jvm.Cond.instanceMethod ({ cls := "AcousticCameraModel", name := "blockBest", desc := "(II)I" } : Jvm.MethodName)) ∈ lw_all := lw_g (lw_at lw_m14 202 rfl) rfl
theorem q3459 : (Jvm.Cond.selects "AcousticCameraModel" ({ cls := "AcousticCameraModel", name := "blockBest", desc := "(II)I" } : Jvm.MethodName) ({ cls := "AcousticCameraModel", name := "blockBest", desc := "(II)I" } : Jvm.MethodName)) ∈ lw_all := lw_g (lw_at lw_m14 203 rfl) rfl
theorem q3460 : (Jvm.Cond.code ({ cls := "AcousticCameraModel", name := "blockBest", desc := "(II)I" } : Jvm.MethodName) prog_15_method_110_code (3 : Nat) (Option.some Jvm.ClassFile.FieldType.int)) ∈ lw_all := lw_g (lw_at lw_m14 204 rfl) rfl
theorem q3461 : (Jvm.Cond.methodLink "AcousticCameraModel" (402 : Nat) ({ cls := "AcousticCameraModel", name := "bestOfBlock", desc := "(II)I" } : Jvm.MethodName)) ∈ lw_all := lw_g (lw_at lw_m14 205 rfl) rfl
theorem q3462 : (Jvm.Cond.privateMethod ({ cls := "AcousticCameraModel", name := "bestOfBlock", desc := "(II)I" } : Jvm.MethodName)) ∈ lw_tbl := lw_at lw_m14 206 rfl
theorem q3463 : (Jvm.Cond.instanceMethod ({ cls := "AcousticCameraModel", name := "bestOfBlock", desc := "(II)I" } : Jvm.MethodName)) ∈ lw_all := lw_g (lw_at lw_m14 207 rfl) rfl
theorem q3464 : (Jvm.Cond.code ({ cls := "AcousticCameraModel", name := "bestOfBlock", desc := "(II)I" } : Jvm.MethodName) prog_15_method_109_code (9 : Nat) (Option.some Jvm.ClassFile.FieldType.int)) ∈ lw_all := lw_g (lw_at lw_m14 208 rfl) rfl
theorem q3466 : (Jvm.Cond.instanceMethod ({ cls := "AcousticCameraModel", name := "path", desc := "(I)I" } : Jvm.MethodName)) ∈ lw_all := lw_g (lw_at lw_m14 210 rfl) rfl
theorem q3467 : (Jvm.Cond.selects "AcousticCameraModel" ({ cls := "AcousticCameraModel", name := "path", desc := "(I)I" } : Jvm.MethodName) ({ cls := "AcousticCameraModel", name := "path", desc := "(I)I" } : Jvm.MethodName)) ∈ lw_all := lw_g (lw_at lw_m14 211 rfl) rfl
theorem q3468 : (Jvm.Cond.code ({ cls := "AcousticCameraModel", name := "path", desc := "(I)I" } : Jvm.MethodName) prog_15_method_111_code (6 : Nat) (Option.some Jvm.ClassFile.FieldType.int)) ∈ lw_all := lw_g (lw_at lw_m14 212 rfl) rfl
theorem q3470 : (Jvm.Cond.instanceMethod ({ cls := "AcousticCameraModel", name := "trackScore", desc := "(I)J" } : Jvm.MethodName)) ∈ lw_all := lw_g (lw_at lw_m14 214 rfl) rfl
theorem q3471 : (Jvm.Cond.selects "AcousticCameraModel" ({ cls := "AcousticCameraModel", name := "trackScore", desc := "(I)J" } : Jvm.MethodName) ({ cls := "AcousticCameraModel", name := "trackScore", desc := "(I)J" } : Jvm.MethodName)) ∈ lw_all := lw_g (lw_at lw_m14 215 rfl) rfl
theorem q3472 : (Jvm.Cond.code ({ cls := "AcousticCameraModel", name := "trackScore", desc := "(I)J" } : Jvm.MethodName) prog_15_method_117_code (2 : Nat) (Option.some Jvm.ClassFile.FieldType.long)) ∈ lw_all := lw_g (lw_at lw_m14 216 rfl) rfl
theorem q3473 : (Jvm.Cond.methodLink "AcousticCameraModel" (414 : Nat) ({ cls := "AcousticCameraModel", name := "isLength", desc := "(I)Z" } : Jvm.MethodName)) ∈ lw_all := lw_g (lw_at lw_m14 217 rfl) rfl
theorem q3474 : (Jvm.Cond.privateMethod ({ cls := "AcousticCameraModel", name := "isLength", desc := "(I)Z" } : Jvm.MethodName)) ∈ lw_tbl := lw_at lw_m14 218 rfl
theorem q3475 : (Jvm.Cond.instanceMethod ({ cls := "AcousticCameraModel", name := "isLength", desc := "(I)Z" } : Jvm.MethodName)) ∈ lw_all := lw_g (lw_at lw_m14 219 rfl) rfl
theorem q3476 : (Jvm.Cond.code ({ cls := "AcousticCameraModel", name := "isLength", desc := "(I)Z" } : Jvm.MethodName) prog_15_method_116_code (2 : Nat) (Option.some Jvm.ClassFile.FieldType.boolean)) ∈ lw_all := lw_g (lw_at lw_m14 220 rfl) rfl
theorem q3477 : (Jvm.Cond.methodLink "AcousticCameraModel" (417 : Nat) ({ cls := "AcousticCameraModel", name := "laysScores", desc := "(I)V" } : Jvm.MethodName)) ∈ lw_all := lw_g (lw_at lw_m14 221 rfl) rfl
theorem q3478 : (Jvm.Cond.privateMethod ({ cls := "AcousticCameraModel", name := "laysScores", desc := "(I)V" } : Jvm.MethodName)) ∈ lw_tbl := lw_at lw_m14 222 rfl
theorem q3479 : (Jvm.Cond.instanceMethod ({ cls := "AcousticCameraModel", name := "laysScores", desc := "(I)V" } : Jvm.MethodName)) ∈ lw_all := lw_g (lw_at lw_m14 223 rfl) rfl
theorem q3480 : (Jvm.Cond.code ({ cls := "AcousticCameraModel", name := "laysScores", desc := "(I)V" } : Jvm.MethodName) prog_15_method_115_code (5 : Nat) (Option.none : Option Jvm.ClassFile.FieldType)) ∈ lw_all := lw_g (lw_at lw_m14 224 rfl) rfl
theorem q3481 : (Jvm.Cond.methodLink "AcousticCameraModel" (408 : Nat) ({ cls := "AcousticCameraModel", name := "blockCount", desc := "(I)I" } : Jvm.MethodName)) ∈ lw_all := lw_g (lw_at lw_m14 225 rfl) rfl
theorem q3482 : (Jvm.Cond.privateMethod ({ cls := "AcousticCameraModel", name := "blockCount", desc := "(I)I" } : Jvm.MethodName)) ∈ lw_tbl := lw_at lw_m14 226 rfl
theorem q3483 : (Jvm.Cond.instanceMethod ({ cls := "AcousticCameraModel", name := "blockCount", desc := "(I)I" } : Jvm.MethodName)) ∈ lw_all := lw_g (lw_at lw_m14 227 rfl) rfl
theorem q3484 : (Jvm.Cond.code ({ cls := "AcousticCameraModel", name := "blockCount", desc := "(I)I" } : Jvm.MethodName) prog_15_method_112_code (2 : Nat) (Option.some Jvm.ClassFile.FieldType.int)) ∈ lw_all := lw_g (lw_at lw_m14 228 rfl) rfl
theorem q3485 : (Jvm.Cond.methodLink "AcousticCameraModel" (411 : Nat) ({ cls := "AcousticCameraModel", name := "bestBehind", desc := "(II)I" } : Jvm.MethodName)) ∈ lw_all := lw_g (lw_at lw_m14 229 rfl) rfl
theorem q3486 : (Jvm.Cond.privateMethod ({ cls := "AcousticCameraModel", name := "bestBehind", desc := "(II)I" } : Jvm.MethodName)) ∈ lw_tbl := lw_at lw_m14 230 rfl
theorem q3487 : (Jvm.Cond.instanceMethod ({ cls := "AcousticCameraModel", name := "bestBehind", desc := "(II)I" } : Jvm.MethodName)) ∈ lw_all := lw_g (lw_at lw_m14 231 rfl) rfl
theorem q3488 : (Jvm.Cond.code ({ cls := "AcousticCameraModel", name := "bestBehind", desc := "(II)I" } : Jvm.MethodName) prog_15_method_114_code (5 : Nat) (Option.some Jvm.ClassFile.FieldType.int)) ∈ lw_all := lw_g (lw_at lw_m14 232 rfl) rfl
theorem q3489 : (Jvm.Cond.methodLink "AcousticCameraModel" (405 : Nat) ({ cls := "AcousticCameraModel", name := "areNear", desc := "(II)Z" } : Jvm.MethodName)) ∈ lw_all := lw_g (lw_at lw_m14 233 rfl) rfl
theorem q3490 : (Jvm.Cond.privateMethod ({ cls := "AcousticCameraModel", name := "areNear", desc := "(II)Z" } : Jvm.MethodName)) ∈ lw_tbl := lw_at lw_m14 234 rfl
theorem q3491 : (Jvm.Cond.instanceMethod ({ cls := "AcousticCameraModel", name := "areNear", desc := "(II)Z" } : Jvm.MethodName)) ∈ lw_all := lw_g (lw_at lw_m14 235 rfl) rfl
theorem q3492 : (Jvm.Cond.code ({ cls := "AcousticCameraModel", name := "areNear", desc := "(II)Z" } : Jvm.MethodName) prog_15_method_113_code (3 : Nat) (Option.some Jvm.ClassFile.FieldType.boolean)) ∈ lw_all := lw_g (lw_at lw_m14 236 rfl) rfl
theorem q3494 : (Jvm.Cond.instanceMethod ({ cls := "AcousticCameraModel", name := "trackCell", desc := "(II)I" } : Jvm.MethodName)) ∈ lw_all := lw_g (lw_at lw_m14 238 rfl) rfl
theorem q3495 : (Jvm.Cond.selects "AcousticCameraModel" ({ cls := "AcousticCameraModel", name := "trackCell", desc := "(II)I" } : Jvm.MethodName) ({ cls := "AcousticCameraModel", name := "trackCell", desc := "(II)I" } : Jvm.MethodName)) ∈ lw_all := lw_g (lw_at lw_m14 239 rfl) rfl
theorem q3496 : (Jvm.Cond.code ({ cls := "AcousticCameraModel", name := "trackCell", desc := "(II)I" } : Jvm.MethodName) prog_15_method_118_code (5 : Nat) (Option.some Jvm.ClassFile.FieldType.int)) ∈ lw_all := lw_g (lw_at lw_m15 0 rfl) rfl
theorem q3498 : (Jvm.Cond.instanceMethod ({ cls := "AcousticCameraModel", name := "zonePower", desc := "(I)J" } : Jvm.MethodName)) ∈ lw_all := lw_g (lw_at lw_m15 2 rfl) rfl
theorem q3499 : (Jvm.Cond.selects "AcousticCameraModel" ({ cls := "AcousticCameraModel", name := "zonePower", desc := "(I)J" } : Jvm.MethodName) ({ cls := "AcousticCameraModel", name := "zonePower", desc := "(I)J" } : Jvm.MethodName)) ∈ lw_all := lw_g (lw_at lw_m15 3 rfl) rfl
theorem q3500 : (Jvm.Cond.code ({ cls := "AcousticCameraModel", name := "zonePower", desc := "(I)J" } : Jvm.MethodName) prog_15_method_121_code (5 : Nat) (Option.some Jvm.ClassFile.FieldType.long)) ∈ lw_all := lw_g (lw_at lw_m15 4 rfl) rfl
theorem q3501 : (Jvm.Cond.methodLink "AcousticCameraModel" (420 : Nat) ({ cls := "AcousticCameraModel", name := "isZone", desc := "(I)Z" } : Jvm.MethodName)) ∈ lw_all := lw_g (lw_at lw_m15 5 rfl) rfl
theorem q3502 : (Jvm.Cond.privateMethod ({ cls := "AcousticCameraModel", name := "isZone", desc := "(I)Z" } : Jvm.MethodName)) ∈ lw_tbl := lw_at lw_m15 6 rfl
theorem q3503 : (Jvm.Cond.instanceMethod ({ cls := "AcousticCameraModel", name := "isZone", desc := "(I)Z" } : Jvm.MethodName)) ∈ lw_all := lw_g (lw_at lw_m15 7 rfl) rfl
theorem q3504 : (Jvm.Cond.code ({ cls := "AcousticCameraModel", name := "isZone", desc := "(I)Z" } : Jvm.MethodName) prog_15_method_119_code (2 : Nat) (Option.some Jvm.ClassFile.FieldType.boolean)) ∈ lw_all := lw_g (lw_at lw_m15 8 rfl) rfl
theorem q3505 : (Jvm.Cond.methodLink "AcousticCameraModel" (423 : Nat) ({ cls := "AcousticCameraModel", name := "isInZone", desc := "(II)Z" } : Jvm.MethodName)) ∈ lw_all := lw_g (lw_at lw_m15 9 rfl) rfl
theorem q3506 : (Jvm.Cond.privateMethod ({ cls := "AcousticCameraModel", name := "isInZone", desc := "(II)Z" } : Jvm.MethodName)) ∈ lw_tbl := lw_at lw_m15 10 rfl
theorem q3507 : (Jvm.Cond.instanceMethod ({ cls := "AcousticCameraModel", name := "isInZone", desc := "(II)Z" } : Jvm.MethodName)) ∈ lw_all := lw_g (lw_at lw_m15 11 rfl) rfl
theorem q3508 : (Jvm.Cond.code ({ cls := "AcousticCameraModel", name := "isInZone", desc := "(II)Z" } : Jvm.MethodName) prog_15_method_120_code (4 : Nat) (Option.some Jvm.ClassFile.FieldType.boolean)) ∈ lw_all := lw_g (lw_at lw_m15 12 rfl) rfl
theorem q3510 : (Jvm.Cond.instanceMethod ({ cls := "AcousticCameraModel", name := "zoneBest", desc := "(I)I" } : Jvm.MethodName)) ∈ lw_all := lw_g (lw_at lw_m15 14 rfl) rfl
theorem q3511 : (Jvm.Cond.selects "AcousticCameraModel" ({ cls := "AcousticCameraModel", name := "zoneBest", desc := "(I)I" } : Jvm.MethodName) ({ cls := "AcousticCameraModel", name := "zoneBest", desc := "(I)I" } : Jvm.MethodName)) ∈ lw_all := lw_g (lw_at lw_m15 15 rfl) rfl
theorem q3512 : (Jvm.Cond.code ({ cls := "AcousticCameraModel", name := "zoneBest", desc := "(I)I" } : Jvm.MethodName) prog_15_method_122_code (4 : Nat) (Option.some Jvm.ClassFile.FieldType.int)) ∈ lw_all := lw_g (lw_at lw_m15 16 rfl) rfl
theorem q3514 : (Jvm.Cond.instanceMethod ({ cls := "AcousticCameraModel", name := "movingPower", desc := "(III)J" } : Jvm.MethodName)) ∈ lw_all := lw_g (lw_at lw_m15 18 rfl) rfl
theorem q3515 : (Jvm.Cond.selects "AcousticCameraModel" ({ cls := "AcousticCameraModel", name := "movingPower", desc := "(III)J" } : Jvm.MethodName) ({ cls := "AcousticCameraModel", name := "movingPower", desc := "(III)J" } : Jvm.MethodName)) ∈ lw_all := lw_g (lw_at lw_m15 19 rfl) rfl
theorem q3516 : (Jvm.Cond.code ({ cls := "AcousticCameraModel", name := "movingPower", desc := "(III)J" } : Jvm.MethodName) prog_15_method_125_code (4 : Nat) (Option.some Jvm.ClassFile.FieldType.long)) ∈ lw_all := lw_g (lw_at lw_m15 20 rfl) rfl
theorem q3517 : (Jvm.Cond.methodLink "AcousticCameraModel" (426 : Nat) ({ cls := "AcousticCameraModel", name := "isVelocity", desc := "(II)Z" } : Jvm.MethodName)) ∈ lw_all := lw_g (lw_at lw_m15 21 rfl) rfl
theorem q3518 : (Jvm.Cond.static ({ cls := "AcousticCameraModel", name := "isVelocity", desc := "(II)Z" } : Jvm.MethodName)) ∈ lw_all := lw_g (lw_at lw_m15 22 rfl) rfl
theorem q3519 : (Jvm.Cond.code ({ cls := "AcousticCameraModel", name := "isVelocity", desc := "(II)Z" } : Jvm.MethodName) prog_15_method_124_code (2 : Nat) (Option.some Jvm.ClassFile.FieldType.boolean)) ∈ lw_all := lw_g (lw_at lw_m15 23 rfl) rfl
theorem q3520 : (Jvm.Cond.methodLink "AcousticCameraModel" (429 : Nat) ({ cls := "AcousticCameraModel", name := "movingOf", desc := "(III)J" } : Jvm.MethodName)) ∈ lw_all := lw_g (lw_at lw_m15 24 rfl) rfl
theorem q3521 : (Jvm.Cond.privateMethod ({ cls := "AcousticCameraModel", name := "movingOf", desc := "(III)J" } : Jvm.MethodName)) ∈ lw_tbl := lw_at lw_m15 25 rfl
theorem q3522 : (Jvm.Cond.instanceMethod ({ cls := "AcousticCameraModel", name := "movingOf", desc := "(III)J" } : Jvm.MethodName)) ∈ lw_all := lw_g (lw_at lw_m15 26 rfl) rfl
theorem q3523 : (Jvm.Cond.code ({ cls := "AcousticCameraModel", name := "movingOf", desc := "(III)J" } : Jvm.MethodName) prog_15_method_123_code (9 : Nat) (Option.some Jvm.ClassFile.FieldType.long)) ∈ lw_all := lw_g (lw_at lw_m15 27 rfl) rfl
theorem q3525 : (Jvm.Cond.instanceMethod ({ cls := "AcousticCameraModel", name := "bestVelocity", desc := "(III)I" } : Jvm.MethodName)) ∈ lw_all := lw_g (lw_at lw_m15 29 rfl) rfl
theorem q3526 : (Jvm.Cond.selects "AcousticCameraModel" ({ cls := "AcousticCameraModel", name := "bestVelocity", desc := "(III)I" } : Jvm.MethodName) ({ cls := "AcousticCameraModel", name := "bestVelocity", desc := "(III)I" } : Jvm.MethodName)) ∈ lw_all := lw_g (lw_at lw_m15 30 rfl) rfl
theorem q3527 : (Jvm.Cond.code ({ cls := "AcousticCameraModel", name := "bestVelocity", desc := "(III)I" } : Jvm.MethodName) prog_15_method_126_code (11 : Nat) (Option.some Jvm.ClassFile.FieldType.int)) ∈ lw_all := lw_g (lw_at lw_m15 31 rfl) rfl
theorem q3529 : (Jvm.Cond.instanceMethod ({ cls := "AcousticCameraModel", name := "correlation", desc := "(III)J" } : Jvm.MethodName)) ∈ lw_all := lw_g (lw_at lw_m15 33 rfl) rfl
theorem q3530 : (Jvm.Cond.selects "AcousticCameraModel" ({ cls := "AcousticCameraModel", name := "correlation", desc := "(III)J" } : Jvm.MethodName) ({ cls := "AcousticCameraModel", name := "correlation", desc := "(III)J" } : Jvm.MethodName)) ∈ lw_all := lw_g (lw_at lw_m15 34 rfl) rfl
theorem q3531 : (Jvm.Cond.code ({ cls := "AcousticCameraModel", name := "correlation", desc := "(III)J" } : Jvm.MethodName) prog_15_method_128_code (4 : Nat) (Option.some Jvm.ClassFile.FieldType.long)) ∈ lw_all := lw_g (lw_at lw_m15 35 rfl) rfl
theorem q3532 : (Jvm.Cond.methodLink "AcousticCameraModel" (432 : Nat) ({ cls := "AcousticCameraModel", name := "together", desc := "(III)J" } : Jvm.MethodName)) ∈ lw_all := lw_g (lw_at lw_m15 36 rfl) rfl
theorem q3533 : (Jvm.Cond.privateMethod ({ cls := "AcousticCameraModel", name := "together", desc := "(III)J" } : Jvm.MethodName)) ∈ lw_tbl := lw_at lw_m15 37 rfl
theorem q3534 : (Jvm.Cond.instanceMethod ({ cls := "AcousticCameraModel", name := "together", desc := "(III)J" } : Jvm.MethodName)) ∈ lw_all := lw_g (lw_at lw_m15 38 rfl) rfl
theorem q3535 : (Jvm.Cond.code ({ cls := "AcousticCameraModel", name := "together", desc := "(III)J" } : Jvm.MethodName) prog_15_method_127_code (7 : Nat) (Option.some Jvm.ClassFile.FieldType.long)) ∈ lw_all := lw_g (lw_at lw_m15 39 rfl) rfl
theorem q3537 : (Jvm.Cond.instanceMethod ({ cls := "AcousticCameraModel", name := "bestLag", desc := "(III)I" } : Jvm.MethodName)) ∈ lw_all := lw_g (lw_at lw_m15 41 rfl) rfl
theorem q3538 : (Jvm.Cond.selects "AcousticCameraModel" ({ cls := "AcousticCameraModel", name := "bestLag", desc := "(III)I" } : Jvm.MethodName) ({ cls := "AcousticCameraModel", name := "bestLag", desc := "(III)I" } : Jvm.MethodName)) ∈ lw_all := lw_g (lw_at lw_m15 42 rfl) rfl
theorem q3539 : (Jvm.Cond.code ({ cls := "AcousticCameraModel", name := "bestLag", desc := "(III)I" } : Jvm.MethodName) prog_15_method_129_code (6 : Nat) (Option.some Jvm.ClassFile.FieldType.int)) ∈ lw_all := lw_g (lw_at lw_m15 43 rfl) rfl
theorem q3541 : (Jvm.Cond.instanceMethod ({ cls := "AcousticCameraModel", name := "level", desc := "(I)J" } : Jvm.MethodName)) ∈ lw_all := lw_g (lw_at lw_m15 45 rfl) rfl
theorem q3542 : (Jvm.Cond.selects "AcousticCameraModel" ({ cls := "AcousticCameraModel", name := "level", desc := "(I)J" } : Jvm.MethodName) ({ cls := "AcousticCameraModel", name := "level", desc := "(I)J" } : Jvm.MethodName)) ∈ lw_all := lw_g (lw_at lw_m15 46 rfl) rfl
theorem q3543 : (Jvm.Cond.code ({ cls := "AcousticCameraModel", name := "level", desc := "(I)J" } : Jvm.MethodName) prog_15_method_131_code (2 : Nat) (Option.some Jvm.ClassFile.FieldType.long)) ∈ lw_all := lw_g (lw_at lw_m15 47 rfl) rfl
theorem q3544 : (Jvm.Cond.methodLink "AcousticCameraModel" (435 : Nat) ({ cls := "AcousticCameraModel", name := "levelOf", desc := "(I)J" } : Jvm.MethodName)) ∈ lw_all := lw_g (lw_at lw_m15 48 rfl) rfl
theorem q3545 : (Jvm.Cond.privateMethod ({ cls := "AcousticCameraModel", name := "levelOf", desc := "(I)J" } : Jvm.MethodName)) ∈ lw_tbl := lw_at lw_m15 49 rfl
theorem q3546 : (Jvm.Cond.instanceMethod ({ cls := "AcousticCameraModel", name := "levelOf", desc := "(I)J" } : Jvm.MethodName)) ∈ lw_all := lw_g (lw_at lw_m15 50 rfl) rfl
theorem q3547 : (Jvm.Cond.code ({ cls := "AcousticCameraModel", name := "levelOf", desc := "(I)J" } : Jvm.MethodName) prog_15_method_130_code (2 : Nat) (Option.some Jvm.ClassFile.FieldType.long)) ∈ lw_all := lw_g (lw_at lw_m15 51 rfl) rfl
theorem q3549 : (Jvm.Cond.instanceMethod ({ cls := "AcousticCameraModel", name := "loudest", desc := "(I)I" } : Jvm.MethodName)) ∈ lw_all := lw_g (lw_at lw_m15 53 rfl) rfl
theorem q3550 : (Jvm.Cond.selects "AcousticCameraModel" ({ cls := "AcousticCameraModel", name := "loudest", desc := "(I)I" } : Jvm.MethodName) ({ cls := "AcousticCameraModel", name := "loudest", desc := "(I)I" } : Jvm.MethodName)) ∈ lw_all := lw_g (lw_at lw_m15 54 rfl) rfl
theorem q3551 : (Jvm.Cond.code ({ cls := "AcousticCameraModel", name := "loudest", desc := "(I)I" } : Jvm.MethodName) prog_15_method_132_code (5 : Nat) (Option.some Jvm.ClassFile.FieldType.int)) ∈ lw_all := lw_g (lw_at lw_m15 55 rfl) rfl
theorem q3553 : (Jvm.Cond.instanceMethod ({ cls := "AcousticCameraModel", name := "writeMap", desc := "()I" } : Jvm.MethodName)) ∈ lw_all := lw_g (lw_at lw_m15 57 rfl) rfl
theorem q3554 : (Jvm.Cond.selects "AcousticCameraModel" ({ cls := "AcousticCameraModel", name := "writeMap", desc := "()I" } : Jvm.MethodName) ({ cls := "AcousticCameraModel", name := "writeMap", desc := "()I" } : Jvm.MethodName)) ∈ lw_all := lw_g (lw_at lw_m15 58 rfl) rfl
theorem q3555 : (Jvm.Cond.code ({ cls := "AcousticCameraModel", name := "writeMap", desc := "()I" } : Jvm.MethodName) prog_15_method_133_code (4 : Nat) (Option.some Jvm.ClassFile.FieldType.int)) ∈ lw_all := lw_g (lw_at lw_m15 59 rfl) rfl
theorem q3556 : (Jvm.Cond.constantLong "AcousticCameraModel" (442 : Nat) (9 : Int64)) ∈ lw_all := lw_g (lw_at lw_m15 60 rfl) rfl
theorem q3558 : (Jvm.Cond.instanceMethod ({ cls := "AcousticCameraModel", name := "mapByte", desc := "(I)I" } : Jvm.MethodName)) ∈ lw_all := lw_g (lw_at lw_m15 62 rfl) rfl
theorem q3559 : (Jvm.Cond.selects "AcousticCameraModel" ({ cls := "AcousticCameraModel", name := "mapByte", desc := "(I)I" } : Jvm.MethodName) ({ cls := "AcousticCameraModel", name := "mapByte", desc := "(I)I" } : Jvm.MethodName)) ∈ lw_all := lw_g (lw_at lw_m15 63 rfl) rfl
theorem q3560 : (Jvm.Cond.code ({ cls := "AcousticCameraModel", name := "mapByte", desc := "(I)I" } : Jvm.MethodName) prog_15_method_134_code (2 : Nat) (Option.some Jvm.ClassFile.FieldType.int)) ∈ lw_all := lw_g (lw_at lw_m15 64 rfl) rfl
theorem q3562 : (Jvm.Cond.instanceMethod ({ cls := "AcousticCameraModel", name := "pointBest", desc := "(II)I" } : Jvm.MethodName)) ∈ lw_all := lw_g (lw_at lw_m15 66 rfl) rfl
theorem q3563 : (Jvm.Cond.selects "AcousticCameraModel" ({ cls := "AcousticCameraModel", name := "pointBest", desc := "(II)I" } : Jvm.MethodName) ({ cls := "AcousticCameraModel", name := "pointBest", desc := "(II)I" } : Jvm.MethodName)) ∈ lw_all := lw_g (lw_at lw_m15 67 rfl) rfl
theorem q3564 : (Jvm.Cond.code ({ cls := "AcousticCameraModel", name := "pointBest", desc := "(II)I" } : Jvm.MethodName) prog_15_method_135_code (3 : Nat) (Option.some Jvm.ClassFile.FieldType.int)) ∈ lw_all := lw_g (lw_at lw_m15 68 rfl) rfl
theorem q3565 : (Jvm.Cond.methodLink "AcousticCameraModel" (444 : Nat) ({ cls := "AcousticCameraModel", name := "recordsPoint", desc := "([III)V" } : Jvm.MethodName)) ∈ lw_all := lw_g (lw_at lw_m15 69 rfl) rfl
theorem q3566 : (Jvm.Cond.privateMethod ({ cls := "AcousticCameraModel", name := "recordsPoint", desc := "([III)V" } : Jvm.MethodName)) ∈ lw_tbl := lw_at lw_m15 70 rfl
theorem q3567 : (Jvm.Cond.instanceMethod ({ cls := "AcousticCameraModel", name := "recordsPoint", desc := "([III)V" } : Jvm.MethodName)) ∈ lw_all := lw_g (lw_at lw_m15 71 rfl) rfl
theorem q3568 : (Jvm.Cond.code ({ cls := "AcousticCameraModel", name := "recordsPoint", desc := "([III)V" } : Jvm.MethodName) prog_15_method_51_code (4 : Nat) (Option.none : Option Jvm.ClassFile.FieldType)) ∈ lw_all := lw_g (lw_at lw_m15 72 rfl) rfl
theorem q3570 : (Jvm.Cond.instanceMethod ({ cls := "AcousticCameraModel", name := "pointPower", desc := "(III)J" } : Jvm.MethodName)) ∈ lw_all := lw_g (lw_at lw_m15 74 rfl) rfl
theorem q3571 : (Jvm.Cond.selects "AcousticCameraModel" ({ cls := "AcousticCameraModel", name := "pointPower", desc := "(III)J" } : Jvm.MethodName) ({ cls := "AcousticCameraModel", name := "pointPower", desc := "(III)J" } : Jvm.MethodName)) ∈ lw_all := lw_g (lw_at lw_m15 75 rfl) rfl
theorem q3572 : (Jvm.Cond.code ({ cls := "AcousticCameraModel", name := "pointPower", desc := "(III)J" } : Jvm.MethodName) prog_15_method_136_code (4 : Nat) (Option.some Jvm.ClassFile.FieldType.long)) ∈ lw_all := lw_g (lw_at lw_m15 76 rfl) rfl
theorem q3574 : (Jvm.Cond.instanceMethod ({ cls := "AcousticCameraModel", name := "bestWithout", desc := "(I)I" } : Jvm.MethodName)) ∈ lw_all := lw_g (lw_at lw_m15 78 rfl) rfl
theorem q3575 : (Jvm.Cond.selects "AcousticCameraModel" ({ cls := "AcousticCameraModel", name := "bestWithout", desc := "(I)I" } : Jvm.MethodName) ({ cls := "AcousticCameraModel", name := "bestWithout", desc := "(I)I" } : Jvm.MethodName)) ∈ lw_all := lw_g (lw_at lw_m15 79 rfl) rfl
theorem q3576 : (Jvm.Cond.code ({ cls := "AcousticCameraModel", name := "bestWithout", desc := "(I)I" } : Jvm.MethodName) prog_15_method_137_code (2 : Nat) (Option.some Jvm.ClassFile.FieldType.int)) ∈ lw_all := lw_g (lw_at lw_m15 80 rfl) rfl
theorem q3578 : (Jvm.Cond.instanceMethod ({ cls := "AcousticCameraModel", name := "bestIfOff", desc := "(I)I" } : Jvm.MethodName)) ∈ lw_all := lw_g (lw_at lw_m15 82 rfl) rfl
theorem q3579 : (Jvm.Cond.selects "AcousticCameraModel" ({ cls := "AcousticCameraModel", name := "bestIfOff", desc := "(I)I" } : Jvm.MethodName) ({ cls := "AcousticCameraModel", name := "bestIfOff", desc := "(I)I" } : Jvm.MethodName)) ∈ lw_all := lw_g (lw_at lw_m15 83 rfl) rfl
theorem q3580 : (Jvm.Cond.code ({ cls := "AcousticCameraModel", name := "bestIfOff", desc := "(I)I" } : Jvm.MethodName) prog_15_method_138_code (2 : Nat) (Option.some Jvm.ClassFile.FieldType.int)) ∈ lw_all := lw_g (lw_at lw_m15 84 rfl) rfl
theorem q3582 : (Jvm.Cond.instanceMethod ({ cls := "AcousticCameraModel", name := "mute", desc := "(IZ)Z" } : Jvm.MethodName)) ∈ lw_all := lw_g (lw_at lw_m15 86 rfl) rfl
theorem q3583 : (Jvm.Cond.selects "AcousticCameraModel" ({ cls := "AcousticCameraModel", name := "mute", desc := "(IZ)Z" } : Jvm.MethodName) ({ cls := "AcousticCameraModel", name := "mute", desc := "(IZ)Z" } : Jvm.MethodName)) ∈ lw_all := lw_g (lw_at lw_m15 87 rfl) rfl
theorem q3584 : (Jvm.Cond.code ({ cls := "AcousticCameraModel", name := "mute", desc := "(IZ)Z" } : Jvm.MethodName) prog_15_method_140_code (3 : Nat) (Option.some Jvm.ClassFile.FieldType.boolean)) ∈ lw_all := lw_g (lw_at lw_m15 88 rfl) rfl
theorem q3585 : (Jvm.Cond.methodLink "AcousticCameraModel" (451 : Nat) ({ cls := "AcousticCameraModel", name := "sets", desc := "(II)I" } : Jvm.MethodName)) ∈ lw_all := lw_g (lw_at lw_m15 89 rfl) rfl
theorem q3586 : (Jvm.Cond.privateMethod ({ cls := "AcousticCameraModel", name := "sets", desc := "(II)I" } : Jvm.MethodName)) ∈ lw_tbl := lw_at lw_m15 90 rfl
theorem q3587 : (Jvm.Cond.instanceMethod ({ cls := "AcousticCameraModel", name := "sets", desc := "(II)I" } : Jvm.MethodName)) ∈ lw_all := lw_g (lw_at lw_m15 91 rfl) rfl
theorem q3588 : (Jvm.Cond.code ({ cls := "AcousticCameraModel", name := "sets", desc := "(II)I" } : Jvm.MethodName) prog_15_method_139_code (4 : Nat) (Option.some Jvm.ClassFile.FieldType.int)) ∈ lw_all := lw_g (lw_at lw_m15 92 rfl) rfl
theorem q3589 : (Jvm.Cond.methodLink "AcousticCameraModel" (448 : Nat) ({ cls := "AcousticCameraModel", name := "remember", desc := "()V" } : Jvm.MethodName)) ∈ lw_all := lw_g (lw_at lw_m15 93 rfl) rfl
theorem q3590 : (Jvm.Cond.privateMethod ({ cls := "AcousticCameraModel", name := "remember", desc := "()V" } : Jvm.MethodName)) ∈ lw_tbl := lw_at lw_m15 94 rfl
theorem q3591 : (Jvm.Cond.instanceMethod ({ cls := "AcousticCameraModel", name := "remember", desc := "()V" } : Jvm.MethodName)) ∈ lw_all := lw_g (lw_at lw_m15 95 rfl) rfl
theorem q3592 : (Jvm.Cond.code ({ cls := "AcousticCameraModel", name := "remember", desc := "()V" } : Jvm.MethodName) prog_15_method_37_code (2 : Nat) (Option.none : Option Jvm.ClassFile.FieldType)) ∈ lw_all := lw_g (lw_at lw_m15 96 rfl) rfl
theorem q3594 : (Jvm.Cond.instanceMethod ({ cls := "AcousticCameraModel", name := "setWeight", desc := "(II)I" } : Jvm.MethodName)) ∈ lw_all := lw_g (lw_at lw_m15 98 rfl) rfl
theorem q3595 : (Jvm.Cond.selects "AcousticCameraModel" ({ cls := "AcousticCameraModel", name := "setWeight", desc := "(II)I" } : Jvm.MethodName) ({ cls := "AcousticCameraModel", name := "setWeight", desc := "(II)I" } : Jvm.MethodName)) ∈ lw_all := lw_g (lw_at lw_m15 99 rfl) rfl
theorem q3596 : (Jvm.Cond.code ({ cls := "AcousticCameraModel", name := "setWeight", desc := "(II)I" } : Jvm.MethodName) prog_15_method_141_code (3 : Nat) (Option.some Jvm.ClassFile.FieldType.int)) ∈ lw_all := lw_g (lw_at lw_m15 100 rfl) rfl
theorem q3598 : (Jvm.Cond.instanceMethod ({ cls := "AcousticCameraModel", name := "setOn", desc := "(IZ)Z" } : Jvm.MethodName)) ∈ lw_all := lw_g (lw_at lw_m15 102 rfl) rfl
theorem q3599 : (Jvm.Cond.selects "AcousticCameraModel" ({ cls := "AcousticCameraModel", name := "setOn", desc := "(IZ)Z" } : Jvm.MethodName) ({ cls := "AcousticCameraModel", name := "setOn", desc := "(IZ)Z" } : Jvm.MethodName)) ∈ lw_all := lw_g (lw_at lw_m15 103 rfl) rfl
theorem q3600 : (Jvm.Cond.code ({ cls := "AcousticCameraModel", name := "setOn", desc := "(IZ)Z" } : Jvm.MethodName) prog_15_method_142_code (4 : Nat) (Option.some Jvm.ClassFile.FieldType.boolean)) ∈ lw_all := lw_g (lw_at lw_m15 104 rfl) rfl
theorem q3602 : (Jvm.Cond.instanceMethod ({ cls := "AcousticCameraModel", name := "moveSource", desc := "(III)I" } : Jvm.MethodName)) ∈ lw_all := lw_g (lw_at lw_m15 106 rfl) rfl
theorem q3603 : (Jvm.Cond.selects "AcousticCameraModel" ({ cls := "AcousticCameraModel", name := "moveSource", desc := "(III)I" } : Jvm.MethodName) ({ cls := "AcousticCameraModel", name := "moveSource", desc := "(III)I" } : Jvm.MethodName)) ∈ lw_all := lw_g (lw_at lw_m15 107 rfl) rfl
theorem q3604 : (Jvm.Cond.code ({ cls := "AcousticCameraModel", name := "moveSource", desc := "(III)I" } : Jvm.MethodName) prog_15_method_144_code (4 : Nat) (Option.some Jvm.ClassFile.FieldType.int)) ∈ lw_all := lw_g (lw_at lw_m15 108 rfl) rfl
theorem q3605 : (Jvm.Cond.methodLink "AcousticCameraModel" (454 : Nat) ({ cls := "AcousticCameraModel", name := "setsTwo", desc := "(III)I" } : Jvm.MethodName)) ∈ lw_all := lw_g (lw_at lw_m15 109 rfl) rfl
theorem q3606 : (Jvm.Cond.privateMethod ({ cls := "AcousticCameraModel", name := "setsTwo", desc := "(III)I" } : Jvm.MethodName)) ∈ lw_tbl := lw_at lw_m15 110 rfl
theorem q3607 : (Jvm.Cond.instanceMethod ({ cls := "AcousticCameraModel", name := "setsTwo", desc := "(III)I" } : Jvm.MethodName)) ∈ lw_all := lw_g (lw_at lw_m15 111 rfl) rfl
theorem q3608 : (Jvm.Cond.code ({ cls := "AcousticCameraModel", name := "setsTwo", desc := "(III)I" } : Jvm.MethodName) prog_15_method_143_code (5 : Nat) (Option.some Jvm.ClassFile.FieldType.int)) ∈ lw_all := lw_g (lw_at lw_m15 112 rfl) rfl
theorem q3610 : (Jvm.Cond.instanceMethod ({ cls := "AcousticCameraModel", name := "setVelocity", desc := "(III)I" } : Jvm.MethodName)) ∈ lw_all := lw_g (lw_at lw_m15 114 rfl) rfl
theorem q3611 : (Jvm.Cond.selects "AcousticCameraModel" ({ cls := "AcousticCameraModel", name := "setVelocity", desc := "(III)I" } : Jvm.MethodName) ({ cls := "AcousticCameraModel", name := "setVelocity", desc := "(III)I" } : Jvm.MethodName)) ∈ lw_all := lw_g (lw_at lw_m15 115 rfl) rfl
theorem q3612 : (Jvm.Cond.code ({ cls := "AcousticCameraModel", name := "setVelocity", desc := "(III)I" } : Jvm.MethodName) prog_15_method_145_code (4 : Nat) (Option.some Jvm.ClassFile.FieldType.int)) ∈ lw_all := lw_g (lw_at lw_m15 116 rfl) rfl
theorem q3614 : (Jvm.Cond.instanceMethod ({ cls := "AcousticCameraModel", name := "clean", desc := "(I)I" } : Jvm.MethodName)) ∈ lw_all := lw_g (lw_at lw_m15 118 rfl) rfl
theorem q3615 : (Jvm.Cond.selects "AcousticCameraModel" ({ cls := "AcousticCameraModel", name := "clean", desc := "(I)I" } : Jvm.MethodName) ({ cls := "AcousticCameraModel", name := "clean", desc := "(I)I" } : Jvm.MethodName)) ∈ lw_all := lw_g (lw_at lw_m15 119 rfl) rfl
theorem q3616 : (Jvm.Cond.code ({ cls := "AcousticCameraModel", name := "clean", desc := "(I)I" } : Jvm.MethodName) prog_15_method_147_code (6 : Nat) (Option.some Jvm.ClassFile.FieldType.int)) ∈ lw_all := lw_g (lw_at lw_m15 120 rfl) rfl
theorem q3617 : (Jvm.Cond.methodLink "AcousticCameraModel" (457 : Nat) ({ cls := "AcousticCameraModel", name := "weightOf", desc := "()I" } : Jvm.MethodName)) ∈ lw_all := lw_g (lw_at lw_m15 121 rfl) rfl
theorem q3618 : (Jvm.Cond.privateMethod ({ cls := "AcousticCameraModel", name := "weightOf", desc := "()I" } : Jvm.MethodName)) ∈ lw_tbl := lw_at lw_m15 122 rfl
theorem q3619 : (Jvm.Cond.instanceMethod ({ cls := "AcousticCameraModel", name := "weightOf", desc := "()I" } : Jvm.MethodName)) ∈ lw_all := lw_g (lw_at lw_m15 123 rfl) rfl
theorem q3620 : (Jvm.Cond.code ({ cls := "AcousticCameraModel", name := "weightOf", desc := "()I" } : Jvm.MethodName) prog_15_method_146_code (3 : Nat) (Option.some Jvm.ClassFile.FieldType.int)) ∈ lw_all := lw_g (lw_at lw_m15 124 rfl) rfl
theorem q3622 : (Jvm.Cond.instanceMethod ({ cls := "AcousticCameraModel", name := "cleaned", desc := "()I" } : Jvm.MethodName)) ∈ lw_all := lw_g (lw_at lw_m15 126 rfl) rfl
theorem q3623 : (Jvm.Cond.selects "AcousticCameraModel" ({ cls := "AcousticCameraModel", name := "cleaned", desc := "()I" } : Jvm.MethodName) ({ cls := "AcousticCameraModel", name := "cleaned", desc := "()I" } : Jvm.MethodName)) ∈ lw_all := lw_g (lw_at lw_m15 127 rfl) rfl
theorem q3624 : (Jvm.Cond.code ({ cls := "AcousticCameraModel", name := "cleaned", desc := "()I" } : Jvm.MethodName) prog_15_method_148_code (1 : Nat) (Option.some Jvm.ClassFile.FieldType.int)) ∈ lw_all := lw_g (lw_at lw_m15 128 rfl) rfl
theorem q3626 : (Jvm.Cond.instanceMethod ({ cls := "AcousticCameraModel", name := "undo", desc := "()I" } : Jvm.MethodName)) ∈ lw_all := lw_g (lw_at lw_m15 130 rfl) rfl
theorem q3627 : (Jvm.Cond.selects "AcousticCameraModel" ({ cls := "AcousticCameraModel", name := "undo", desc := "()I" } : Jvm.MethodName) ({ cls := "AcousticCameraModel", name := "undo", desc := "()I" } : Jvm.MethodName)) ∈ lw_all := lw_g (lw_at lw_m15 131 rfl) rfl
theorem q3628 : (Jvm.Cond.code ({ cls := "AcousticCameraModel", name := "undo", desc := "()I" } : Jvm.MethodName) prog_15_method_149_code (1 : Nat) (Option.some Jvm.ClassFile.FieldType.int)) ∈ lw_all := lw_g (lw_at lw_m15 132 rfl) rfl
theorem q3630 : (Jvm.Cond.instanceMethod ({ cls := "AcousticCameraModel", name := "undoable", desc := "()I" } : Jvm.MethodName)) ∈ lw_all := lw_g (lw_at lw_m15 134 rfl) rfl
theorem q3631 : (Jvm.Cond.selects "AcousticCameraModel" ({ cls := "AcousticCameraModel", name := "undoable", desc := "()I" } : Jvm.MethodName) ({ cls := "AcousticCameraModel", name := "undoable", desc := "()I" } : Jvm.MethodName)) ∈ lw_all := lw_g (lw_at lw_m15 135 rfl) rfl
theorem q3632 : (Jvm.Cond.code ({ cls := "AcousticCameraModel", name := "undoable", desc := "()I" } : Jvm.MethodName) prog_15_method_150_code (1 : Nat) (Option.some Jvm.ClassFile.FieldType.int)) ∈ lw_all := lw_g (lw_at lw_m15 136 rfl) rfl
theorem q3634 : (Jvm.Cond.instanceMethod ({ cls := "AcousticCameraModel", name := "save", desc := "(I)I" } : Jvm.MethodName)) ∈ lw_all := lw_g (lw_at lw_m15 138 rfl) rfl
theorem q3635 : (Jvm.Cond.selects "AcousticCameraModel" ({ cls := "AcousticCameraModel", name := "save", desc := "(I)I" } : Jvm.MethodName) ({ cls := "AcousticCameraModel", name := "save", desc := "(I)I" } : Jvm.MethodName)) ∈ lw_all := lw_g (lw_at lw_m15 139 rfl) rfl
theorem q3636 : (Jvm.Cond.code ({ cls := "AcousticCameraModel", name := "save", desc := "(I)I" } : Jvm.MethodName) prog_15_method_151_code (2 : Nat) (Option.some Jvm.ClassFile.FieldType.int)) ∈ lw_all := lw_g (lw_at lw_m15 140 rfl) rfl
theorem q3638 : (Jvm.Cond.instanceMethod ({ cls := "AcousticCameraModel", name := "restore", desc := "(I)I" } : Jvm.MethodName)) ∈ lw_all := lw_g (lw_at lw_m15 142 rfl) rfl
theorem q3639 : (Jvm.Cond.selects "AcousticCameraModel" ({ cls := "AcousticCameraModel", name := "restore", desc := "(I)I" } : Jvm.MethodName) ({ cls := "AcousticCameraModel", name := "restore", desc := "(I)I" } : Jvm.MethodName)) ∈ lw_all := lw_g (lw_at lw_m15 143 rfl) rfl
theorem q3640 : (Jvm.Cond.code ({ cls := "AcousticCameraModel", name := "restore", desc := "(I)I" } : Jvm.MethodName) prog_15_method_152_code (2 : Nat) (Option.some Jvm.ClassFile.FieldType.int)) ∈ lw_all := lw_g (lw_at lw_m15 144 rfl) rfl
theorem q3667 : (Jvm.Cond.castable "AcousticCameraModel" "java/lang/Object") ∈ lw_tbl := lw_at lw_m15 171 rfl
theorem q150 : (Jvm.Cond.initialized "AcousticCamera$State") ∈ lw_all := lw_g (lw_at lw_m1 14 rfl) rfl
theorem q473 : (Jvm.Cond.instantiable "AcousticCamera$State" (8 : Nat)) ∈ lw_all := lw_g (lw_at lw_m2 97 rfl) rfl
theorem q773 : (Jvm.Cond.fieldLinkNest "AcousticCamera$State" (59 : Nat) "AcousticCamera$Setup" "mics" "Ljava/util/List;" "AcousticCamera") ∈ lw_tbl := lw_at lw_m3 157 rfl
theorem q777 : (Jvm.Cond.fieldLinkNest "AcousticCamera$State" (136 : Nat) "AcousticCamera$Setup" "walls" "Ljava/util/List;" "AcousticCamera") ∈ lw_tbl := lw_at lw_m3 161 rfl
theorem q781 : (Jvm.Cond.fieldLinkNest "AcousticCamera$State" (249 : Nat) "AcousticCamera$Setup" "zones" "Ljava/util/List;" "AcousticCamera") ∈ lw_tbl := lw_at lw_m3 165 rfl
theorem q784 : (Jvm.Cond.fieldLinkNest "AcousticCamera$State" (147 : Nat) "AcousticCamera$Setup" "offsets" "[I" "AcousticCamera") ∈ lw_tbl := lw_at lw_m3 168 rfl
theorem q787 : (Jvm.Cond.fieldLinkNest "AcousticCamera$State" (159 : Nat) "AcousticCamera$Setup" "filter" "[I" "AcousticCamera") ∈ lw_tbl := lw_at lw_m3 171 rfl
theorem q790 : (Jvm.Cond.fieldLinkNest "AcousticCamera$State" (66 : Nat) "AcousticCamera$Setup" "shade" "[I" "AcousticCamera") ∈ lw_tbl := lw_at lw_m3 174 rfl
theorem q793 : (Jvm.Cond.fieldLinkNest "AcousticCamera$State" (52 : Nat) "AcousticCamera$Setup" "off" "Ljava/util/BitSet;" "AcousticCamera") ∈ lw_tbl := lw_at lw_m3 177 rfl
theorem q795 : (Jvm.Cond.fieldLinkNest "AcousticCamera$State" (27 : Nat) "AcousticCamera$Setup" "sources" "Ljava/util/List;" "AcousticCamera") ∈ lw_tbl := lw_at lw_m3 179 rfl
theorem q802 : (Jvm.Cond.fieldLinkNest "AcousticCamera$State" (69 : Nat) "AcousticCamera$Setup" "samples" "I" "AcousticCamera") ∈ lw_tbl := lw_at lw_m3 186 rfl
theorem q805 : (Jvm.Cond.fieldLinkNest "AcousticCamera$State" (162 : Nat) "AcousticCamera$Setup" "limit" "I" "AcousticCamera") ∈ lw_tbl := lw_at lw_m3 189 rfl
theorem q807 : (Jvm.Cond.fieldLinkNest "AcousticCamera$State" (123 : Nat) "AcousticCamera$Setup" "fade" "I" "AcousticCamera") ∈ lw_tbl := lw_at lw_m3 191 rfl
theorem q817 : (Jvm.Cond.fieldLinkNest "AcousticCamera$State" (230 : Nat) "AcousticCamera$Setup" "columns" "I" "AcousticCamera") ∈ lw_tbl := lw_at lw_m3 201 rfl
theorem q821 : (Jvm.Cond.fieldLinkNest "AcousticCamera$State" (257 : Nat) "AcousticCamera$Setup" "rows" "I" "AcousticCamera") ∈ lw_tbl := lw_at lw_m3 205 rfl
theorem q824 : (Jvm.Cond.fieldLinkNest "AcousticCamera$State" (183 : Nat) "AcousticCamera$Setup" "delays" "[[I" "AcousticCamera") ∈ lw_tbl := lw_at lw_m3 208 rfl
theorem q1102 : (Jvm.Cond.fieldLinkNest "AcousticCamera$State" (156 : Nat) "AcousticCamera$Mic" "gain" "I" "AcousticCamera") ∈ lw_tbl := lw_at lw_m5 6 rfl
theorem q1147 : (Jvm.Cond.selects "AcousticCamera$State" ({ cls := "java/lang/Object", name := "getClass", desc := "()Ljava/lang/Class;" } : Jvm.MethodName) ({ cls := "java/lang/Object", name := "getClass", desc := "()Ljava/lang/Class;" } : Jvm.MethodName)) ∈ lw_all := lw_g (lw_at lw_m5 51 rfl) rfl
theorem q1310 : (Jvm.Cond.selects "AcousticCamera$State" ({ cls := "java/lang/Object", name := "equals", desc := "(Ljava/lang/Object;)Z" } : Jvm.MethodName) ({ cls := "java/lang/Object", name := "equals", desc := "(Ljava/lang/Object;)Z" } : Jvm.MethodName)) ∈ lw_all := lw_g (lw_at lw_m5 214 rfl) rfl
theorem q1429 : (Jvm.Cond.fieldLinkNest "AcousticCamera$State" (141 : Nat) "AcousticCamera$Wall" "x" "I" "AcousticCamera") ∈ lw_tbl := lw_at lw_m6 93 rfl
theorem q1431 : (Jvm.Cond.fieldLinkNest "AcousticCamera$State" (144 : Nat) "AcousticCamera$Wall" "percent" "I" "AcousticCamera") ∈ lw_tbl := lw_at lw_m6 95 rfl
theorem q1654 : (Jvm.Cond.instanceMethod ({ cls := "AcousticCamera$State", name := "<init>", desc := "(LAcousticCamera$Setup;)V" } : Jvm.MethodName)) ∈ lw_all := lw_g (lw_at lw_m7 78 rfl) rfl
theorem q1655 : (Jvm.Cond.code ({ cls := "AcousticCamera$State", name := "<init>", desc := "(LAcousticCamera$Setup;)V" } : Jvm.MethodName) prog_9_method_1_code (3 : Nat) (Option.none : Option Jvm.ClassFile.FieldType)) ∈ lw_all := lw_g (lw_at lw_m7 79 rfl) rfl
theorem q1656 : (Jvm.Cond.methodLink "AcousticCamera$State" (3 : Nat) ({ cls := "java/lang/Object", name := "<init>", desc := "()V" } : Jvm.MethodName)) ∈ lw_all := lw_g (lw_at lw_m7 80 rfl) rfl
theorem q1657 : (Jvm.Cond.classLink "AcousticCamera$State" (9 : Nat) "java/util/BitSet") ∈ lw_all := lw_g (lw_at lw_m7 81 rfl) rfl
theorem q1658 : (Jvm.Cond.methodLink "AcousticCamera$State" (11 : Nat) ({ cls := "java/util/BitSet", name := "<init>", desc := "(I)V" } : Jvm.MethodName)) ∈ lw_all := lw_g (lw_at lw_m7 82 rfl) rfl
theorem q1659 : (Jvm.Cond.interfaceEntry "AcousticCamera$State" (33 : Nat)) ∈ lw_tbl := lw_at lw_m7 83 rfl
theorem q1660 : (Jvm.Cond.methodLink "AcousticCamera$State" (33 : Nat) ({ cls := "java/util/List", name := "size", desc := "()I" } : Jvm.MethodName)) ∈ lw_all := lw_g (lw_at lw_m7 84 rfl) rfl
theorem q1661 : (Jvm.Cond.classLink "AcousticCamera$State" (39 : Nat) "AcousticCamera$Source") ∈ lw_all := lw_g (lw_at lw_m7 85 rfl) rfl
theorem q1663 : (Jvm.Cond.interfaceEntry "AcousticCamera$State" (44 : Nat)) ∈ lw_tbl := lw_at lw_m7 87 rfl
theorem q1664 : (Jvm.Cond.methodLink "AcousticCamera$State" (44 : Nat) ({ cls := "java/util/List", name := "get", desc := "(I)Ljava/lang/Object;" } : Jvm.MethodName)) ∈ lw_all := lw_g (lw_at lw_m7 88 rfl) rfl
theorem q1665 : (Jvm.Cond.methodLink "AcousticCamera$State" (48 : Nat) ({ cls := "java/util/BitSet", name := "set", desc := "(II)V" } : Jvm.MethodName)) ∈ lw_all := lw_g (lw_at lw_m7 89 rfl) rfl
theorem q1677 : (Jvm.Cond.methodLink "AcousticCamera$State" (55 : Nat) ({ cls := "java/util/BitSet", name := "andNot", desc := "(Ljava/util/BitSet;)V" } : Jvm.MethodName)) ∈ lw_all := lw_g (lw_at lw_m7 101 rfl) rfl
theorem q1686 : (Jvm.Cond.classLink "AcousticCamera$State" (73 : Nat) "[[I") ∈ lw_all := lw_g (lw_at lw_m7 110 rfl) rfl
theorem q1687 : (Jvm.Cond.fieldLink "AcousticCamera$State" (23 : Nat) "AcousticCamera$State" "setup" "LAcousticCamera$Setup;") ∈ lw_all := lw_g (lw_at lw_m7 111 rfl) rfl
theorem q1689 : (Jvm.Cond.fieldLink "AcousticCamera$State" (14 : Nat) "AcousticCamera$State" "muted" "Ljava/util/BitSet;") ∈ lw_all := lw_g (lw_at lw_m7 113 rfl) rfl
theorem q1691 : (Jvm.Cond.fieldLink "AcousticCamera$State" (20 : Nat) "AcousticCamera$State" "on" "Ljava/util/BitSet;") ∈ lw_all := lw_g (lw_at lw_m7 115 rfl) rfl
theorem q1693 : (Jvm.Cond.fieldLink "AcousticCamera$State" (41 : Nat) "AcousticCamera$State" "sources" "[LAcousticCamera$Source;") ∈ lw_all := lw_g (lw_at lw_m7 117 rfl) rfl
theorem q1695 : (Jvm.Cond.fieldLink "AcousticCamera$State" (62 : Nat) "AcousticCamera$State" "weights" "[I") ∈ lw_all := lw_g (lw_at lw_m7 119 rfl) rfl
theorem q1697 : (Jvm.Cond.fieldLink "AcousticCamera$State" (75 : Nat) "AcousticCamera$State" "recordings" "[[I") ∈ lw_all := lw_g (lw_at lw_m7 121 rfl) rfl
theorem q1699 : (Jvm.Cond.fieldLink "AcousticCamera$State" (98 : Nat) "AcousticCamera$State" "cleaned" "I") ∈ lw_all := lw_g (lw_at lw_m7 123 rfl) rfl
theorem q1701 : (Jvm.Cond.fieldLink "AcousticCamera$State" (101 : Nat) "AcousticCamera$State" "powers" "[J") ∈ lw_all := lw_g (lw_at lw_m7 125 rfl) rfl
theorem q1703 : (Jvm.Cond.laysFinal "AcousticCamera$State" "AcousticCamera$State" "setup" "LAcousticCamera$Setup;") ∈ lw_all := lw_g (lw_at lw_m7 127 rfl) rfl
theorem q1704 : (Jvm.Cond.soleField "AcousticCamera$State" "setup") ∈ lw_all := lw_g (lw_at lw_m7 128 rfl) rfl
theorem q1705 : (Jvm.Cond.laysFinal "AcousticCamera$State" "AcousticCamera$State" "muted" "Ljava/util/BitSet;") ∈ lw_all := lw_g (lw_at lw_m7 129 rfl) rfl
theorem q1706 : (Jvm.Cond.soleField "AcousticCamera$State" "muted") ∈ lw_all := lw_g (lw_at lw_m7 130 rfl) rfl
theorem q1707 : (Jvm.Cond.laysFinal "AcousticCamera$State" "AcousticCamera$State" "on" "Ljava/util/BitSet;") ∈ lw_all := lw_g (lw_at lw_m7 131 rfl) rfl
theorem q1708 : (Jvm.Cond.soleField "AcousticCamera$State" "on") ∈ lw_all := lw_g (lw_at lw_m7 132 rfl) rfl
theorem q1709 : (Jvm.Cond.laysFinal "AcousticCamera$State" "AcousticCamera$State" "sources" "[LAcousticCamera$Source;") ∈ lw_all := lw_g (lw_at lw_m7 133 rfl) rfl
theorem q1710 : (Jvm.Cond.soleField "AcousticCamera$State" "sources") ∈ lw_all := lw_g (lw_at lw_m7 134 rfl) rfl
theorem q1711 : (Jvm.Cond.lays "AcousticCamera$State" "AcousticCamera$State" "weights" "[I") ∈ lw_all := lw_g (lw_at lw_m7 135 rfl) rfl
theorem q1712 : (Jvm.Cond.soleField "AcousticCamera$State" "weights") ∈ lw_all := lw_g (lw_at lw_m7 136 rfl) rfl
theorem q1713 : (Jvm.Cond.lays "AcousticCamera$State" "AcousticCamera$State" "recordings" "[[I") ∈ lw_all := lw_g (lw_at lw_m7 137 rfl) rfl
theorem q1714 : (Jvm.Cond.soleField "AcousticCamera$State" "recordings") ∈ lw_all := lw_g (lw_at lw_m7 138 rfl) rfl
theorem q1715 : (Jvm.Cond.lays "AcousticCamera$State" "AcousticCamera$State" "cleaned" "I") ∈ lw_all := lw_g (lw_at lw_m7 139 rfl) rfl
theorem q1716 : (Jvm.Cond.soleField "AcousticCamera$State" "cleaned") ∈ lw_all := lw_g (lw_at lw_m7 140 rfl) rfl
theorem q1717 : (Jvm.Cond.lays "AcousticCamera$State" "AcousticCamera$State" "powers" "[J") ∈ lw_all := lw_g (lw_at lw_m7 141 rfl) rfl
theorem q1718 : (Jvm.Cond.soleField "AcousticCamera$State" "powers") ∈ lw_all := lw_g (lw_at lw_m7 142 rfl) rfl
theorem q1719 : (Jvm.Cond.superclass "AcousticCamera$State" "java/lang/Object") ∈ lw_all := lw_g (lw_at lw_m7 143 rfl) rfl
theorem q1721 : (Jvm.Cond.instanceMethod ({ cls := "AcousticCamera$State", name := "record", desc := "()V" } : Jvm.MethodName)) ∈ lw_all := lw_g (lw_at lw_m7 145 rfl) rfl
theorem q1722 : (Jvm.Cond.selects "AcousticCamera$State" ({ cls := "AcousticCamera$State", name := "record", desc := "()V" } : Jvm.MethodName) ({ cls := "AcousticCamera$State", name := "record", desc := "()V" } : Jvm.MethodName)) ∈ lw_all := lw_g (lw_at lw_m7 146 rfl) rfl
theorem q1723 : (Jvm.Cond.code ({ cls := "AcousticCamera$State", name := "record", desc := "()V" } : Jvm.MethodName) prog_9_method_3_code (6 : Nat) (Option.none : Option Jvm.ClassFile.FieldType)) ∈ lw_all := lw_g (lw_at lw_m7 147 rfl) rfl
theorem q1724 : (Jvm.Cond.methodLink "AcousticCamera$State" (105 : Nat) ({ cls := "java/util/BitSet", name := "nextSetBit", desc := "(I)I" } : Jvm.MethodName)) ∈ lw_all := lw_g (lw_at lw_m7 148 rfl) rfl
theorem q1735 : (Jvm.Cond.methodLink "AcousticCamera$State" (109 : Nat) ({ cls := "AcousticCamera$State", name := "add", desc := "(LAcousticCamera$Source;I)V" } : Jvm.MethodName)) ∈ lw_all := lw_g (lw_at lw_m7 159 rfl) rfl
theorem q1736 : (Jvm.Cond.privateMethod ({ cls := "AcousticCamera$State", name := "add", desc := "(LAcousticCamera$Source;I)V" } : Jvm.MethodName)) ∈ lw_tbl := lw_at lw_m7 160 rfl
theorem q1737 : (Jvm.Cond.instanceMethod ({ cls := "AcousticCamera$State", name := "add", desc := "(LAcousticCamera$Source;I)V" } : Jvm.MethodName)) ∈ lw_all := lw_g (lw_at lw_m7 161 rfl) rfl
theorem q1738 : (Jvm.Cond.code ({ cls := "AcousticCamera$State", name := "add", desc := "(LAcousticCamera$Source;I)V" } : Jvm.MethodName) prog_9_method_6_code (5 : Nat) (Option.none : Option Jvm.ClassFile.FieldType)) ∈ lw_all := lw_g (lw_at lw_m7 162 rfl) rfl
theorem q1739 : (Jvm.Cond.methodLink "AcousticCamera$State" (150 : Nat) ({ cls := "AcousticCamera$State", name := "heardWithImages", desc := "(LAcousticCamera$Source;II)I" } : Jvm.MethodName)) ∈ lw_all := lw_g (lw_at lw_m7 163 rfl) rfl
theorem q1740 : (Jvm.Cond.privateMethod ({ cls := "AcousticCamera$State", name := "heardWithImages", desc := "(LAcousticCamera$Source;II)I" } : Jvm.MethodName)) ∈ lw_tbl := lw_at lw_m7 164 rfl
theorem q1741 : (Jvm.Cond.instanceMethod ({ cls := "AcousticCamera$State", name := "heardWithImages", desc := "(LAcousticCamera$Source;II)I" } : Jvm.MethodName)) ∈ lw_all := lw_g (lw_at lw_m7 165 rfl) rfl
theorem q1742 : (Jvm.Cond.code ({ cls := "AcousticCamera$State", name := "heardWithImages", desc := "(LAcousticCamera$Source;II)I" } : Jvm.MethodName) prog_9_method_5_code (9 : Nat) (Option.some Jvm.ClassFile.FieldType.int)) ∈ lw_all := lw_g (lw_at lw_m7 166 rfl) rfl
theorem q1743 : (Jvm.Cond.methodLink "AcousticCamera$State" (126 : Nat) ({ cls := "AcousticCamera$Source", name := "xAt", desc := "(I)I" } : Jvm.MethodName)) ∈ lw_all := lw_g (lw_at lw_m7 167 rfl) rfl
theorem q1747 : (Jvm.Cond.methodLink "AcousticCamera$State" (129 : Nat) ({ cls := "AcousticCamera$Source", name := "yAt", desc := "(I)I" } : Jvm.MethodName)) ∈ lw_all := lw_g (lw_at lw_m7 171 rfl) rfl
theorem q1751 : (Jvm.Cond.methodLink "AcousticCamera$State" (132 : Nat) ({ cls := "AcousticCamera$State", name := "heard", desc := "(LAcousticCamera$Source;IIII)I" } : Jvm.MethodName)) ∈ lw_all := lw_g (lw_at lw_m7 175 rfl) rfl
theorem q1752 : (Jvm.Cond.privateMethod ({ cls := "AcousticCamera$State", name := "heard", desc := "(LAcousticCamera$Source;IIII)I" } : Jvm.MethodName)) ∈ lw_tbl := lw_at lw_m7 176 rfl
theorem q1753 : (Jvm.Cond.instanceMethod ({ cls := "AcousticCamera$State", name := "heard", desc := "(LAcousticCamera$Source;IIII)I" } : Jvm.MethodName)) ∈ lw_all := lw_g (lw_at lw_m7 177 rfl) rfl
theorem q1754 : (Jvm.Cond.code ({ cls := "AcousticCamera$State", name := "heard", desc := "(LAcousticCamera$Source;IIII)I" } : Jvm.MethodName) prog_9_method_4_code (8 : Nat) (Option.some Jvm.ClassFile.FieldType.int)) ∈ lw_all := lw_g (lw_at lw_m7 178 rfl) rfl
theorem q1755 : (Jvm.Cond.methodLink "AcousticCamera$State" (116 : Nat) ({ cls := "AcousticCamera$Setup", name := "delay", desc := "(III)I" } : Jvm.MethodName)) ∈ lw_all := lw_g (lw_at lw_m7 179 rfl) rfl
theorem q1756 : (Jvm.Cond.methodLink "AcousticCamera$State" (120 : Nat) ({ cls := "AcousticCamera$Source", name := "at", desc := "(I)I" } : Jvm.MethodName)) ∈ lw_all := lw_g (lw_at lw_m7 180 rfl) rfl
theorem q1764 : (Jvm.Cond.classLink "AcousticCamera$State" (139 : Nat) "AcousticCamera$Wall") ∈ lw_all := lw_g (lw_at lw_m7 188 rfl) rfl
theorem q1765 : (Jvm.Cond.methodLink "AcousticCamera$State" (113 : Nat) ({ cls := "AcousticCamera$State", name := "finish", desc := "(I)V" } : Jvm.MethodName)) ∈ lw_all := lw_g (lw_at lw_m7 189 rfl) rfl
theorem q1766 : (Jvm.Cond.privateMethod ({ cls := "AcousticCamera$State", name := "finish", desc := "(I)V" } : Jvm.MethodName)) ∈ lw_tbl := lw_at lw_m7 190 rfl
theorem q1767 : (Jvm.Cond.instanceMethod ({ cls := "AcousticCamera$State", name := "finish", desc := "(I)V" } : Jvm.MethodName)) ∈ lw_all := lw_g (lw_at lw_m7 191 rfl) rfl
theorem q1768 : (Jvm.Cond.code ({ cls := "AcousticCamera$State", name := "finish", desc := "(I)V" } : Jvm.MethodName) prog_9_method_7_code (7 : Nat) (Option.none : Option Jvm.ClassFile.FieldType)) ∈ lw_all := lw_g (lw_at lw_m7 192 rfl) rfl
theorem q1769 : (Jvm.Cond.classLink "AcousticCamera$State" (154 : Nat) "AcousticCamera$Mic") ∈ lw_all := lw_g (lw_at lw_m7 193 rfl) rfl
theorem q1770 : (Jvm.Cond.methodLink "AcousticCamera$State" (165 : Nat) ({ cls := "java/lang/Math", name := "min", desc := "(II)I" } : Jvm.MethodName)) ∈ lw_all := lw_g (lw_at lw_m7 194 rfl) rfl
theorem q1771 : (Jvm.Cond.methodLink "AcousticCamera$State" (171 : Nat) ({ cls := "java/lang/Math", name := "max", desc := "(II)I" } : Jvm.MethodName)) ∈ lw_all := lw_g (lw_at lw_m7 195 rfl) rfl
theorem q1834 : (Jvm.Cond.instanceMethod ({ cls := "AcousticCamera$State", name := "isActive", desc := "(I)Z" } : Jvm.MethodName)) ∈ lw_all := lw_g (lw_at lw_m8 18 rfl) rfl
theorem q1835 : (Jvm.Cond.selects "AcousticCamera$State" ({ cls := "AcousticCamera$State", name := "isActive", desc := "(I)Z" } : Jvm.MethodName) ({ cls := "AcousticCamera$State", name := "isActive", desc := "(I)Z" } : Jvm.MethodName)) ∈ lw_all := lw_g (lw_at lw_m8 19 rfl) rfl
theorem q1836 : (Jvm.Cond.code ({ cls := "AcousticCamera$State", name := "isActive", desc := "(I)Z" } : Jvm.MethodName) prog_9_method_8_code (2 : Nat) (Option.some Jvm.ClassFile.FieldType.boolean)) ∈ lw_all := lw_g (lw_at lw_m8 20 rfl) rfl
theorem q1837 : (Jvm.Cond.methodLink "AcousticCamera$State" (174 : Nat) ({ cls := "java/util/BitSet", name := "get", desc := "(I)Z" } : Jvm.MethodName)) ∈ lw_all := lw_g (lw_at lw_m8 21 rfl) rfl
theorem q1912 : (Jvm.Cond.instanceMethod ({ cls := "AcousticCamera$State", name := "spread", desc := "(I)I" } : Jvm.MethodName)) ∈ lw_all := lw_g (lw_at lw_m8 96 rfl) rfl
theorem q1913 : (Jvm.Cond.selects "AcousticCamera$State" ({ cls := "AcousticCamera$State", name := "spread", desc := "(I)I" } : Jvm.MethodName) ({ cls := "AcousticCamera$State", name := "spread", desc := "(I)I" } : Jvm.MethodName)) ∈ lw_all := lw_g (lw_at lw_m8 97 rfl) rfl
theorem q1914 : (Jvm.Cond.code ({ cls := "AcousticCamera$State", name := "spread", desc := "(I)I" } : Jvm.MethodName) prog_9_method_11_code (4 : Nat) (Option.some Jvm.ClassFile.FieldType.int)) ∈ lw_all := lw_g (lw_at lw_m8 98 rfl) rfl
theorem q1915 : (Jvm.Cond.methodLink "AcousticCamera$State" (186 : Nat) ({ cls := "AcousticCamera$State", name := "greatestDelay", desc := "(I)I" } : Jvm.MethodName)) ∈ lw_all := lw_g (lw_at lw_m8 99 rfl) rfl
theorem q1916 : (Jvm.Cond.instanceMethod ({ cls := "AcousticCamera$State", name := "greatestDelay", desc := "(I)I" } : Jvm.MethodName)) ∈ lw_all := lw_g (lw_at lw_m8 100 rfl) rfl
theorem q1917 : (Jvm.Cond.selects "AcousticCamera$State" ({ cls := "AcousticCamera$State", name := "greatestDelay", desc := "(I)I" } : Jvm.MethodName) ({ cls := "AcousticCamera$State", name := "greatestDelay", desc := "(I)I" } : Jvm.MethodName)) ∈ lw_all := lw_g (lw_at lw_m8 101 rfl) rfl
theorem q1918 : (Jvm.Cond.code ({ cls := "AcousticCamera$State", name := "greatestDelay", desc := "(I)I" } : Jvm.MethodName) prog_9_method_10_code (4 : Nat) (Option.some Jvm.ClassFile.FieldType.int)) ∈ lw_all := lw_g (lw_at lw_m8 102 rfl) rfl
theorem q1919 : (Jvm.Cond.methodLink "AcousticCamera$State" (180 : Nat) ({ cls := "AcousticCamera$State", name := "isActive", desc := "(I)Z" } : Jvm.MethodName)) ∈ lw_all := lw_g (lw_at lw_m8 103 rfl) rfl
theorem q1928 : (Jvm.Cond.instanceMethod ({ cls := "AcousticCamera$State", name := "window", desc := "(I)I" } : Jvm.MethodName)) ∈ lw_all := lw_g (lw_at lw_m8 112 rfl) rfl
theorem q1929 : (Jvm.Cond.selects "AcousticCamera$State" ({ cls := "AcousticCamera$State", name := "window", desc := "(I)I" } : Jvm.MethodName) ({ cls := "AcousticCamera$State", name := "window", desc := "(I)I" } : Jvm.MethodName)) ∈ lw_all := lw_g (lw_at lw_m8 113 rfl) rfl
theorem q1930 : (Jvm.Cond.code ({ cls := "AcousticCamera$State", name := "window", desc := "(I)I" } : Jvm.MethodName) prog_9_method_12_code (2 : Nat) (Option.some Jvm.ClassFile.FieldType.int)) ∈ lw_all := lw_g (lw_at lw_m8 114 rfl) rfl
theorem q1946 : (Jvm.Cond.instanceMethod ({ cls := "AcousticCamera$State", name := "beam", desc := "(II)I" } : Jvm.MethodName)) ∈ lw_all := lw_g (lw_at lw_m8 130 rfl) rfl
theorem q1947 : (Jvm.Cond.selects "AcousticCamera$State" ({ cls := "AcousticCamera$State", name := "beam", desc := "(II)I" } : Jvm.MethodName) ({ cls := "AcousticCamera$State", name := "beam", desc := "(II)I" } : Jvm.MethodName)) ∈ lw_all := lw_g (lw_at lw_m8 131 rfl) rfl
theorem q1948 : (Jvm.Cond.code ({ cls := "AcousticCamera$State", name := "beam", desc := "(II)I" } : Jvm.MethodName) prog_9_method_13_code (5 : Nat) (Option.some Jvm.ClassFile.FieldType.int)) ∈ lw_all := lw_g (lw_at lw_m8 132 rfl) rfl
theorem q1957 : (Jvm.Cond.instanceMethod ({ cls := "AcousticCamera$State", name := "powers", desc := "()[J" } : Jvm.MethodName)) ∈ lw_all := lw_g (lw_at lw_m8 141 rfl) rfl
theorem q1958 : (Jvm.Cond.selects "AcousticCamera$State" ({ cls := "AcousticCamera$State", name := "powers", desc := "()[J" } : Jvm.MethodName) ({ cls := "AcousticCamera$State", name := "powers", desc := "()[J" } : Jvm.MethodName)) ∈ lw_all := lw_g (lw_at lw_m8 142 rfl) rfl
theorem q1959 : (Jvm.Cond.code ({ cls := "AcousticCamera$State", name := "powers", desc := "()[J" } : Jvm.MethodName) prog_9_method_16_code (3 : Nat) (Option.some (Jvm.ClassFile.FieldType.array Jvm.ClassFile.FieldType.long))) ∈ lw_all := lw_g (lw_at lw_m8 143 rfl) rfl
theorem q1960 : (Jvm.Cond.methodLink "AcousticCamera$State" (199 : Nat) ({ cls := "AcousticCamera$Setup", name := "cells", desc := "()I" } : Jvm.MethodName)) ∈ lw_all := lw_g (lw_at lw_m8 144 rfl) rfl
theorem q1961 : (Jvm.Cond.methodLink "AcousticCamera$State" (202 : Nat) ({ cls := "AcousticCamera$State", name := "powerOf", desc := "(I)J" } : Jvm.MethodName)) ∈ lw_all := lw_g (lw_at lw_m8 145 rfl) rfl
theorem q1962 : (Jvm.Cond.privateMethod ({ cls := "AcousticCamera$State", name := "powerOf", desc := "(I)J" } : Jvm.MethodName)) ∈ lw_tbl := lw_at lw_m8 146 rfl
theorem q1963 : (Jvm.Cond.instanceMethod ({ cls := "AcousticCamera$State", name := "powerOf", desc := "(I)J" } : Jvm.MethodName)) ∈ lw_all := lw_g (lw_at lw_m8 147 rfl) rfl
theorem q1964 : (Jvm.Cond.code ({ cls := "AcousticCamera$State", name := "powerOf", desc := "(I)J" } : Jvm.MethodName) prog_9_method_15_code (3 : Nat) (Option.some Jvm.ClassFile.FieldType.long)) ∈ lw_all := lw_g (lw_at lw_m8 148 rfl) rfl
theorem q1965 : (Jvm.Cond.methodLink "AcousticCamera$State" (192 : Nat) ({ cls := "AcousticCamera$State", name := "window", desc := "(I)I" } : Jvm.MethodName)) ∈ lw_all := lw_g (lw_at lw_m8 149 rfl) rfl
theorem q1966 : (Jvm.Cond.methodLink "AcousticCamera$State" (195 : Nat) ({ cls := "AcousticCamera$State", name := "squares", desc := "(III)J" } : Jvm.MethodName)) ∈ lw_all := lw_g (lw_at lw_m8 150 rfl) rfl
theorem q1967 : (Jvm.Cond.privateMethod ({ cls := "AcousticCamera$State", name := "squares", desc := "(III)J" } : Jvm.MethodName)) ∈ lw_tbl := lw_at lw_m8 151 rfl
theorem q1968 : (Jvm.Cond.instanceMethod ({ cls := "AcousticCamera$State", name := "squares", desc := "(III)J" } : Jvm.MethodName)) ∈ lw_all := lw_g (lw_at lw_m8 152 rfl) rfl
theorem q1969 : (Jvm.Cond.code ({ cls := "AcousticCamera$State", name := "squares", desc := "(III)J" } : Jvm.MethodName) prog_9_method_14_code (9 : Nat) (Option.some Jvm.ClassFile.FieldType.long)) ∈ lw_all := lw_g (lw_at lw_m8 153 rfl) rfl
theorem q1970 : (Jvm.Cond.methodLink "AcousticCamera$State" (189 : Nat) ({ cls := "AcousticCamera$State", name := "beam", desc := "(II)I" } : Jvm.MethodName)) ∈ lw_all := lw_g (lw_at lw_m8 154 rfl) rfl
theorem q1979 : (Jvm.Cond.instanceMethod ({ cls := "AcousticCamera$State", name := "powerAt", desc := "(II)J" } : Jvm.MethodName)) ∈ lw_all := lw_g (lw_at lw_m8 163 rfl) rfl
theorem q1980 : (Jvm.Cond.selects "AcousticCamera$State" ({ cls := "AcousticCamera$State", name := "powerAt", desc := "(II)J" } : Jvm.MethodName) ({ cls := "AcousticCamera$State", name := "powerAt", desc := "(II)J" } : Jvm.MethodName)) ∈ lw_all := lw_g (lw_at lw_m8 164 rfl) rfl
theorem q1981 : (Jvm.Cond.code ({ cls := "AcousticCamera$State", name := "powerAt", desc := "(II)J" } : Jvm.MethodName) prog_9_method_19_code (5 : Nat) (Option.some Jvm.ClassFile.FieldType.long)) ∈ lw_all := lw_g (lw_at lw_m8 165 rfl) rfl
theorem q1982 : (Jvm.Cond.methodLink "AcousticCamera$State" (217 : Nat) ({ cls := "AcousticCamera$State", name := "focused", desc := "(IIIII)J" } : Jvm.MethodName)) ∈ lw_all := lw_g (lw_at lw_m8 166 rfl) rfl
theorem q1983 : (Jvm.Cond.instanceMethod ({ cls := "AcousticCamera$State", name := "focused", desc := "(IIIII)J" } : Jvm.MethodName)) ∈ lw_all := lw_g (lw_at lw_m8 167 rfl) rfl
theorem q1984 : (Jvm.Cond.selects "AcousticCamera$State" ({ cls := "AcousticCamera$State", name := "focused", desc := "(IIIII)J" } : Jvm.MethodName) ({ cls := "AcousticCamera$State", name := "focused", desc := "(IIIII)J" } : Jvm.MethodName)) ∈ lw_all := lw_g (lw_at lw_m8 168 rfl) rfl
theorem q1985 : (Jvm.Cond.code ({ cls := "AcousticCamera$State", name := "focused", desc := "(IIIII)J" } : Jvm.MethodName) prog_9_method_18_code (13 : Nat) (Option.some Jvm.ClassFile.FieldType.long)) ∈ lw_all := lw_g (lw_at lw_m8 169 rfl) rfl
theorem q1994 : (Jvm.Cond.instanceMethod ({ cls := "AcousticCamera$State", name := "best", desc := "()I" } : Jvm.MethodName)) ∈ lw_all := lw_g (lw_at lw_m8 178 rfl) rfl
theorem q1995 : (Jvm.Cond.selects "AcousticCamera$State" ({ cls := "AcousticCamera$State", name := "best", desc := "()I" } : Jvm.MethodName) ({ cls := "AcousticCamera$State", name := "best", desc := "()I" } : Jvm.MethodName)) ∈ lw_all := lw_g (lw_at lw_m8 179 rfl) rfl
theorem q1996 : (Jvm.Cond.code ({ cls := "AcousticCamera$State", name := "best", desc := "()I" } : Jvm.MethodName) prog_9_method_17_code (2 : Nat) (Option.some Jvm.ClassFile.FieldType.int)) ∈ lw_all := lw_g (lw_at lw_m8 180 rfl) rfl
theorem q1997 : (Jvm.Cond.methodLink "AcousticCamera$State" (206 : Nat) ({ cls := "AcousticCamera$State", name := "powers", desc := "()[J" } : Jvm.MethodName)) ∈ lw_all := lw_g (lw_at lw_m8 181 rfl) rfl
theorem q1998 : (Jvm.Cond.static ({ cls := "AcousticCamera$State", name := "lambda$best$0", desc := "([JI)J" } : Jvm.MethodName)) ∈ lw_all := lw_g (lw_at lw_m8 182 rfl) rfl
theorem q1999 : (Jvm.Cond.code ({ cls := "AcousticCamera$State", name := "lambda$best$0", desc := "([JI)J" } : Jvm.MethodName) prog_9_method_38_code (2 : Nat) (Option.some Jvm.ClassFile.FieldType.long)) ∈ lw_all := lw_g (lw_at lw_m8 183 rfl) rfl
theorem q2000 : (Jvm.Cond.methodLinkNest "AcousticCamera$State" (213 : Nat) ({ cls := "AcousticCamera", name := "best", desc := "(ILAcousticCamera$Score;)I" } : Jvm.MethodName) "AcousticCamera") ∈ lw_tbl := lw_at lw_m8 184 rfl
theorem q2031 : (Jvm.Cond.instanceMethod ({ cls := "AcousticCamera$State", name := "isPeak", desc := "(I)Z" } : Jvm.MethodName)) ∈ lw_all := lw_g (lw_at lw_m8 215 rfl) rfl
theorem q2032 : (Jvm.Cond.selects "AcousticCamera$State" ({ cls := "AcousticCamera$State", name := "isPeak", desc := "(I)Z" } : Jvm.MethodName) ({ cls := "AcousticCamera$State", name := "isPeak", desc := "(I)Z" } : Jvm.MethodName)) ∈ lw_all := lw_g (lw_at lw_m8 216 rfl) rfl
theorem q2033 : (Jvm.Cond.code ({ cls := "AcousticCamera$State", name := "isPeak", desc := "(I)Z" } : Jvm.MethodName) prog_9_method_27_code (8 : Nat) (Option.some Jvm.ClassFile.FieldType.boolean)) ∈ lw_all := lw_g (lw_at lw_m8 217 rfl) rfl
theorem q2049 : (Jvm.Cond.instanceMethod ({ cls := "AcousticCamera$State", name := "peaks", desc := "()Ljava/util/LinkedList;" } : Jvm.MethodName)) ∈ lw_all := lw_g (lw_at lw_m8 233 rfl) rfl
theorem q2050 : (Jvm.Cond.selects "AcousticCamera$State" ({ cls := "AcousticCamera$State", name := "peaks", desc := "()Ljava/util/LinkedList;" } : Jvm.MethodName) ({ cls := "AcousticCamera$State", name := "peaks", desc := "()Ljava/util/LinkedList;" } : Jvm.MethodName)) ∈ lw_all := lw_g (lw_at lw_m8 234 rfl) rfl
theorem q2051 : (Jvm.Cond.code ({ cls := "AcousticCamera$State", name := "peaks", desc := "()Ljava/util/LinkedList;" } : Jvm.MethodName) prog_9_method_28_code (2 : Nat) (Option.some (Jvm.ClassFile.FieldType.object "java/util/LinkedList"))) ∈ lw_all := lw_g (lw_at lw_m8 235 rfl) rfl
theorem q2052 : (Jvm.Cond.privateMethod ({ cls := "AcousticCamera$State", name := "lambda$peaks$2", desc := "(I)Z" } : Jvm.MethodName)) ∈ lw_tbl := lw_at lw_m8 236 rfl
theorem q2053 : (Jvm.Cond.instanceMethod ({ cls := "AcousticCamera$State", name := "lambda$peaks$2", desc := "(I)Z" } : Jvm.MethodName)) ∈ lw_all := lw_g (lw_at lw_m8 237 rfl) rfl
theorem q2054 : (Jvm.Cond.code ({ cls := "AcousticCamera$State", name := "lambda$peaks$2", desc := "(I)Z" } : Jvm.MethodName) prog_9_method_36_code (2 : Nat) (Option.some Jvm.ClassFile.FieldType.boolean)) ∈ lw_all := lw_g (lw_at lw_m8 238 rfl) rfl
theorem q2055 : (Jvm.Cond.methodLink "AcousticCamera$State" (277 : Nat) ({ cls := "AcousticCamera$State", name := "isPeak", desc := "(I)Z" } : Jvm.MethodName)) ∈ lw_all := lw_g (lw_at lw_m8 239 rfl) rfl
theorem q2056 : (Jvm.Cond.static ({ cls := "AcousticCamera$State", name := "lambda$peaks$3", desc := "([JI)J" } : Jvm.MethodName)) ∈ lw_all := lw_g (lw_at lw_m9 0 rfl) rfl
theorem q2057 : (Jvm.Cond.code ({ cls := "AcousticCamera$State", name := "lambda$peaks$3", desc := "([JI)J" } : Jvm.MethodName) prog_9_method_35_code (2 : Nat) (Option.some Jvm.ClassFile.FieldType.long)) ∈ lw_all := lw_g (lw_at lw_m9 1 rfl) rfl
theorem q2058 : (Jvm.Cond.methodLinkNest "AcousticCamera$State" (265 : Nat) ({ cls := "AcousticCamera", name := "ranking", desc := "(ILAcousticCamera$Choice;LAcousticCamera$Score;)Ljava/util/LinkedList;" } : Jvm.MethodName) "AcousticCamera") ∈ lw_tbl := lw_at lw_m9 2 rfl
theorem q2350 : (Jvm.Cond.instanceMethod ({ cls := "AcousticCamera$State", name := "isInZone", desc := "(II)Z" } : Jvm.MethodName)) ∈ lw_all := lw_g (lw_at lw_m10 54 rfl) rfl
theorem q2351 : (Jvm.Cond.selects "AcousticCamera$State" ({ cls := "AcousticCamera$State", name := "isInZone", desc := "(II)Z" } : Jvm.MethodName) ({ cls := "AcousticCamera$State", name := "isInZone", desc := "(II)Z" } : Jvm.MethodName)) ∈ lw_all := lw_g (lw_at lw_m10 55 rfl) rfl
theorem q2352 : (Jvm.Cond.code ({ cls := "AcousticCamera$State", name := "isInZone", desc := "(II)Z" } : Jvm.MethodName) prog_9_method_26_code (3 : Nat) (Option.some Jvm.ClassFile.FieldType.boolean)) ∈ lw_all := lw_g (lw_at lw_m10 56 rfl) rfl
theorem q2353 : (Jvm.Cond.classLink "AcousticCamera$State" (252 : Nat) "AcousticCamera$Zone") ∈ lw_all := lw_g (lw_at lw_m10 57 rfl) rfl
theorem q2354 : (Jvm.Cond.methodLink "AcousticCamera$State" (254 : Nat) ({ cls := "AcousticCamera$Zone", name := "has", desc := "(II)Z" } : Jvm.MethodName)) ∈ lw_all := lw_g (lw_at lw_m10 58 rfl) rfl
theorem q2396 : (Jvm.Cond.instanceMethod ({ cls := "AcousticCamera$State", name := "alias", desc := "(III)I" } : Jvm.MethodName)) ∈ lw_all := lw_g (lw_at lw_m10 100 rfl) rfl
theorem q2397 : (Jvm.Cond.selects "AcousticCamera$State" ({ cls := "AcousticCamera$State", name := "alias", desc := "(III)I" } : Jvm.MethodName) ({ cls := "AcousticCamera$State", name := "alias", desc := "(III)I" } : Jvm.MethodName)) ∈ lw_all := lw_g (lw_at lw_m10 101 rfl) rfl
theorem q2398 : (Jvm.Cond.code ({ cls := "AcousticCamera$State", name := "alias", desc := "(III)I" } : Jvm.MethodName) prog_9_method_29_code (8 : Nat) (Option.some Jvm.ClassFile.FieldType.int)) ∈ lw_all := lw_g (lw_at lw_m10 102 rfl) rfl
theorem q2399 : (Jvm.Cond.methodLink "AcousticCamera$State" (269 : Nat) ({ cls := "java/lang/Math", name := "floorMod", desc := "(II)I" } : Jvm.MethodName)) ∈ lw_all := lw_g (lw_at lw_m10 103 rfl) rfl
theorem q2414 : (Jvm.Cond.instanceMethod ({ cls := "AcousticCamera$State", name := "isAlias", desc := "(III)Z" } : Jvm.MethodName)) ∈ lw_all := lw_g (lw_at lw_m10 118 rfl) rfl
theorem q2415 : (Jvm.Cond.selects "AcousticCamera$State" ({ cls := "AcousticCamera$State", name := "isAlias", desc := "(III)Z" } : Jvm.MethodName) ({ cls := "AcousticCamera$State", name := "isAlias", desc := "(III)Z" } : Jvm.MethodName)) ∈ lw_all := lw_g (lw_at lw_m10 119 rfl) rfl
theorem q2416 : (Jvm.Cond.code ({ cls := "AcousticCamera$State", name := "isAlias", desc := "(III)Z" } : Jvm.MethodName) prog_9_method_30_code (5 : Nat) (Option.some Jvm.ClassFile.FieldType.boolean)) ∈ lw_all := lw_g (lw_at lw_m10 120 rfl) rfl
theorem q2417 : (Jvm.Cond.methodLink "AcousticCamera$State" (272 : Nat) ({ cls := "AcousticCamera$State", name := "best", desc := "()I" } : Jvm.MethodName)) ∈ lw_all := lw_g (lw_at lw_m10 121 rfl) rfl
theorem q2418 : (Jvm.Cond.methodLink "AcousticCamera$State" (274 : Nat) ({ cls := "AcousticCamera$State", name := "actives", desc := "()I" } : Jvm.MethodName)) ∈ lw_all := lw_g (lw_at lw_m10 122 rfl) rfl
theorem q2419 : (Jvm.Cond.instanceMethod ({ cls := "AcousticCamera$State", name := "actives", desc := "()I" } : Jvm.MethodName)) ∈ lw_all := lw_g (lw_at lw_m10 123 rfl) rfl
theorem q2420 : (Jvm.Cond.selects "AcousticCamera$State" ({ cls := "AcousticCamera$State", name := "actives", desc := "()I" } : Jvm.MethodName) ({ cls := "AcousticCamera$State", name := "actives", desc := "()I" } : Jvm.MethodName)) ∈ lw_all := lw_g (lw_at lw_m10 124 rfl) rfl
theorem q2421 : (Jvm.Cond.code ({ cls := "AcousticCamera$State", name := "actives", desc := "()I" } : Jvm.MethodName) prog_9_method_9_code (1 : Nat) (Option.some Jvm.ClassFile.FieldType.int)) ∈ lw_all := lw_g (lw_at lw_m10 125 rfl) rfl
theorem q2422 : (Jvm.Cond.methodLink "AcousticCamera$State" (177 : Nat) ({ cls := "java/util/BitSet", name := "cardinality", desc := "()I" } : Jvm.MethodName)) ∈ lw_all := lw_g (lw_at lw_m10 126 rfl) rfl
theorem q2432 : (Jvm.Cond.methodLink "AcousticCamera$State" (280 : Nat) ({ cls := "AcousticCamera$State", name := "alias", desc := "(III)I" } : Jvm.MethodName)) ∈ lw_all := lw_g (lw_at lw_m10 136 rfl) rfl
theorem q2454 : (Jvm.Cond.instanceMethod ({ cls := "AcousticCamera$State", name := "blockPower", desc := "(III)J" } : Jvm.MethodName)) ∈ lw_all := lw_g (lw_at lw_m10 158 rfl) rfl
theorem q2455 : (Jvm.Cond.selects "AcousticCamera$State" ({ cls := "AcousticCamera$State", name := "blockPower", desc := "(III)J" } : Jvm.MethodName) ({ cls := "AcousticCamera$State", name := "blockPower", desc := "(III)J" } : Jvm.MethodName)) ∈ lw_all := lw_g (lw_at lw_m10 159 rfl) rfl
theorem q2456 : (Jvm.Cond.code ({ cls := "AcousticCamera$State", name := "blockPower", desc := "(III)J" } : Jvm.MethodName) prog_9_method_21_code (4 : Nat) (Option.some Jvm.ClassFile.FieldType.long)) ∈ lw_all := lw_g (lw_at lw_m10 160 rfl) rfl
theorem q2465 : (Jvm.Cond.instanceMethod ({ cls := "AcousticCamera$State", name := "blockBest", desc := "(II)I" } : Jvm.MethodName)) ∈ lw_all := lw_g (lw_at lw_m10 169 rfl) rfl
theorem q2466 : (Jvm.Cond.selects "AcousticCamera$State" ({ cls := "AcousticCamera$State", name := "blockBest", desc := "(II)I" } : Jvm.MethodName) ({ cls := "AcousticCamera$State", name := "blockBest", desc := "(II)I" } : Jvm.MethodName)) ∈ lw_all := lw_g (lw_at lw_m10 170 rfl) rfl
theorem q2467 : (Jvm.Cond.code ({ cls := "AcousticCamera$State", name := "blockBest", desc := "(II)I" } : Jvm.MethodName) prog_9_method_22_code (3 : Nat) (Option.some Jvm.ClassFile.FieldType.int)) ∈ lw_all := lw_g (lw_at lw_m10 171 rfl) rfl
theorem q2468 : (Jvm.Cond.privateMethod ({ cls := "AcousticCamera$State", name := "lambda$blockBest$1", desc := "(III)J" } : Jvm.MethodName)) ∈ lw_tbl := lw_at lw_m10 172 rfl
theorem q2469 : (Jvm.Cond.instanceMethod ({ cls := "AcousticCamera$State", name := "lambda$blockBest$1", desc := "(III)J" } : Jvm.MethodName)) ∈ lw_all := lw_g (lw_at lw_m10 173 rfl) rfl
theorem q2470 : (Jvm.Cond.code ({ cls := "AcousticCamera$State", name := "lambda$blockBest$1", desc := "(III)J" } : Jvm.MethodName) prog_9_method_37_code (4 : Nat) (Option.some Jvm.ClassFile.FieldType.long)) ∈ lw_all := lw_g (lw_at lw_m10 174 rfl) rfl
theorem q2471 : (Jvm.Cond.methodLink "AcousticCamera$State" (242 : Nat) ({ cls := "AcousticCamera$State", name := "blockPower", desc := "(III)J" } : Jvm.MethodName)) ∈ lw_all := lw_g (lw_at lw_m10 175 rfl) rfl
theorem q2492 : (Jvm.Cond.instanceMethod ({ cls := "AcousticCamera$State", name := "scores", desc := "(I)[[J" } : Jvm.MethodName)) ∈ lw_all := lw_g (lw_at lw_m10 196 rfl) rfl
theorem q2493 : (Jvm.Cond.selects "AcousticCamera$State" ({ cls := "AcousticCamera$State", name := "scores", desc := "(I)[[J" } : Jvm.MethodName) ({ cls := "AcousticCamera$State", name := "scores", desc := "(I)[[J" } : Jvm.MethodName)) ∈ lw_all := lw_g (lw_at lw_m10 197 rfl) rfl
theorem q2494 : (Jvm.Cond.code ({ cls := "AcousticCamera$State", name := "scores", desc := "(I)[[J" } : Jvm.MethodName) prog_9_method_24_code (7 : Nat) (Option.some (Jvm.ClassFile.FieldType.array (Jvm.ClassFile.FieldType.array Jvm.ClassFile.FieldType.long)))) ∈ lw_all := lw_g (lw_at lw_m10 198 rfl) rfl
theorem q2495 : (Jvm.Cond.classLink "AcousticCamera$State" (236 : Nat) "[[J") ∈ lw_all := lw_g (lw_at lw_m10 199 rfl) rfl
theorem q2497 : (Jvm.Cond.methodLink "AcousticCamera$State" (238 : Nat) ({ cls := "AcousticCamera$State", name := "next", desc := "([JI)I" } : Jvm.MethodName)) ∈ lw_all := lw_g (lw_at lw_m10 201 rfl) rfl
theorem q2498 : (Jvm.Cond.instanceMethod ({ cls := "AcousticCamera$State", name := "next", desc := "([JI)I" } : Jvm.MethodName)) ∈ lw_all := lw_g (lw_at lw_m10 202 rfl) rfl
theorem q2499 : (Jvm.Cond.selects "AcousticCamera$State" ({ cls := "AcousticCamera$State", name := "next", desc := "([JI)I" } : Jvm.MethodName) ({ cls := "AcousticCamera$State", name := "next", desc := "([JI)I" } : Jvm.MethodName)) ∈ lw_all := lw_g (lw_at lw_m10 203 rfl) rfl
theorem q2500 : (Jvm.Cond.code ({ cls := "AcousticCamera$State", name := "next", desc := "([JI)I" } : Jvm.MethodName) prog_9_method_25_code (5 : Nat) (Option.some Jvm.ClassFile.FieldType.int)) ∈ lw_all := lw_g (lw_at lw_m10 204 rfl) rfl
theorem q2501 : (Jvm.Cond.methodLink "AcousticCamera$State" (245 : Nat) ({ cls := "AcousticCamera$State", name := "areNear", desc := "(II)Z" } : Jvm.MethodName)) ∈ lw_all := lw_g (lw_at lw_m10 205 rfl) rfl
theorem q2502 : (Jvm.Cond.instanceMethod ({ cls := "AcousticCamera$State", name := "areNear", desc := "(II)Z" } : Jvm.MethodName)) ∈ lw_all := lw_g (lw_at lw_m10 206 rfl) rfl
theorem q2503 : (Jvm.Cond.selects "AcousticCamera$State" ({ cls := "AcousticCamera$State", name := "areNear", desc := "(II)Z" } : Jvm.MethodName) ({ cls := "AcousticCamera$State", name := "areNear", desc := "(II)Z" } : Jvm.MethodName)) ∈ lw_all := lw_g (lw_at lw_m10 207 rfl) rfl
theorem q2504 : (Jvm.Cond.code ({ cls := "AcousticCamera$State", name := "areNear", desc := "(II)Z" } : Jvm.MethodName) prog_9_method_23_code (4 : Nat) (Option.some Jvm.ClassFile.FieldType.boolean)) ∈ lw_all := lw_g (lw_at lw_m10 208 rfl) rfl
theorem q2505 : (Jvm.Cond.methodLink "AcousticCamera$State" (233 : Nat) ({ cls := "java/lang/Math", name := "abs", desc := "(I)I" } : Jvm.MethodName)) ∈ lw_all := lw_g (lw_at lw_m10 209 rfl) rfl
theorem q2528 : (Jvm.Cond.instanceMethod ({ cls := "AcousticCamera$State", name := "movingPower", desc := "(III)J" } : Jvm.MethodName)) ∈ lw_all := lw_g (lw_at lw_m10 232 rfl) rfl
theorem q2529 : (Jvm.Cond.selects "AcousticCamera$State" ({ cls := "AcousticCamera$State", name := "movingPower", desc := "(III)J" } : Jvm.MethodName) ({ cls := "AcousticCamera$State", name := "movingPower", desc := "(III)J" } : Jvm.MethodName)) ∈ lw_all := lw_g (lw_at lw_m10 233 rfl) rfl
theorem q2530 : (Jvm.Cond.code ({ cls := "AcousticCamera$State", name := "movingPower", desc := "(III)J" } : Jvm.MethodName) prog_9_method_20_code (4 : Nat) (Option.some Jvm.ClassFile.FieldType.long)) ∈ lw_all := lw_g (lw_at lw_m10 234 rfl) rfl
theorem q2531 : (Jvm.Cond.methodLink "AcousticCamera$State" (221 : Nat) ({ cls := "AcousticCamera$Setup", name := "xOf", desc := "(I)I" } : Jvm.MethodName)) ∈ lw_all := lw_g (lw_at lw_m10 235 rfl) rfl
theorem q2532 : (Jvm.Cond.methodLink "AcousticCamera$State" (224 : Nat) ({ cls := "AcousticCamera$Setup", name := "yOf", desc := "(I)I" } : Jvm.MethodName)) ∈ lw_all := lw_g (lw_at lw_m10 236 rfl) rfl
theorem q2554 : (Jvm.Cond.instanceMethod ({ cls := "AcousticCamera$State", name := "correlation", desc := "(III)J" } : Jvm.MethodName)) ∈ lw_all := lw_g (lw_at lw_m11 18 rfl) rfl
theorem q2555 : (Jvm.Cond.selects "AcousticCamera$State" ({ cls := "AcousticCamera$State", name := "correlation", desc := "(III)J" } : Jvm.MethodName) ({ cls := "AcousticCamera$State", name := "correlation", desc := "(III)J" } : Jvm.MethodName)) ∈ lw_all := lw_g (lw_at lw_m11 19 rfl) rfl
theorem q2556 : (Jvm.Cond.code ({ cls := "AcousticCamera$State", name := "correlation", desc := "(III)J" } : Jvm.MethodName) prog_9_method_34_code (7 : Nat) (Option.some Jvm.ClassFile.FieldType.long)) ∈ lw_all := lw_g (lw_at lw_m11 20 rfl) rfl
theorem q2574 : (Jvm.Cond.instanceMethod ({ cls := "AcousticCamera$State", name := "level", desc := "(I)J" } : Jvm.MethodName)) ∈ lw_all := lw_g (lw_at lw_m11 38 rfl) rfl
theorem q2575 : (Jvm.Cond.selects "AcousticCamera$State" ({ cls := "AcousticCamera$State", name := "level", desc := "(I)J" } : Jvm.MethodName) ({ cls := "AcousticCamera$State", name := "level", desc := "(I)J" } : Jvm.MethodName)) ∈ lw_all := lw_g (lw_at lw_m11 39 rfl) rfl
theorem q2576 : (Jvm.Cond.code ({ cls := "AcousticCamera$State", name := "level", desc := "(I)J" } : Jvm.MethodName) prog_9_method_33_code (9 : Nat) (Option.some Jvm.ClassFile.FieldType.long)) ∈ lw_all := lw_g (lw_at lw_m11 40 rfl) rfl
theorem q2707 : (Jvm.Cond.instanceMethod ({ cls := "AcousticCamera$State", name := "copy", desc := "()LAcousticCamera$State;" } : Jvm.MethodName)) ∈ lw_all := lw_g (lw_at lw_m11 171 rfl) rfl
theorem q2708 : (Jvm.Cond.selects "AcousticCamera$State" ({ cls := "AcousticCamera$State", name := "copy", desc := "()LAcousticCamera$State;" } : Jvm.MethodName) ({ cls := "AcousticCamera$State", name := "copy", desc := "()LAcousticCamera$State;" } : Jvm.MethodName)) ∈ lw_all := lw_g (lw_at lw_m11 172 rfl) rfl
theorem q2709 : (Jvm.Cond.code ({ cls := "AcousticCamera$State", name := "copy", desc := "()LAcousticCamera$State;" } : Jvm.MethodName) prog_9_method_2_code (3 : Nat) (Option.some (Jvm.ClassFile.FieldType.object "AcousticCamera$State"))) ∈ lw_all := lw_g (lw_at lw_m11 173 rfl) rfl
theorem q2710 : (Jvm.Cond.classLink "AcousticCamera$State" (15 : Nat) "AcousticCamera$State") ∈ lw_all := lw_g (lw_at lw_m11 174 rfl) rfl
theorem q2711 : (Jvm.Cond.methodLink "AcousticCamera$State" (78 : Nat) ({ cls := "AcousticCamera$State", name := "<init>", desc := "(LAcousticCamera$Setup;)V" } : Jvm.MethodName)) ∈ lw_all := lw_g (lw_at lw_m11 175 rfl) rfl
theorem q2712 : (Jvm.Cond.methodLink "AcousticCamera$State" (81 : Nat) ({ cls := "java/util/BitSet", name := "or", desc := "(Ljava/util/BitSet;)V" } : Jvm.MethodName)) ∈ lw_all := lw_g (lw_at lw_m11 176 rfl) rfl
theorem q2717 : (Jvm.Cond.methodLink "AcousticCamera$State" (84 : Nat) ({ cls := "java/util/BitSet", name := "clear", desc := "()V" } : Jvm.MethodName)) ∈ lw_all := lw_g (lw_at lw_m11 181 rfl) rfl
theorem q2721 : (Jvm.Cond.methodLink "AcousticCamera$State" (87 : Nat) ({ cls := "java/lang/System", name := "arraycopy", desc := "(Ljava/lang/Object;ILjava/lang/Object;II)V" } : Jvm.MethodName)) ∈ lw_all := lw_g (lw_at lw_m11 185 rfl) rfl
theorem q2722 : (Jvm.Cond.methodLink "AcousticCamera$State" (93 : Nat) ({ cls := "[I", name := "clone", desc := "()Ljava/lang/Object;" } : Jvm.MethodName)) ∈ lw_all := lw_g (lw_at lw_m11 186 rfl) rfl
theorem q2726 : (Jvm.Cond.classLink "AcousticCamera$State" (94 : Nat) "[I") ∈ lw_all := lw_g (lw_at lw_m11 190 rfl) rfl
theorem q2854 : (Jvm.Cond.instanceMethod ({ cls := "AcousticCamera$State", name := "weightSum", desc := "()I" } : Jvm.MethodName)) ∈ lw_all := lw_g (lw_at lw_m12 78 rfl) rfl
theorem q2855 : (Jvm.Cond.selects "AcousticCamera$State" ({ cls := "AcousticCamera$State", name := "weightSum", desc := "()I" } : Jvm.MethodName) ({ cls := "AcousticCamera$State", name := "weightSum", desc := "()I" } : Jvm.MethodName)) ∈ lw_all := lw_g (lw_at lw_m12 79 rfl) rfl
theorem q2856 : (Jvm.Cond.code ({ cls := "AcousticCamera$State", name := "weightSum", desc := "()I" } : Jvm.MethodName) prog_9_method_31_code (3 : Nat) (Option.some Jvm.ClassFile.FieldType.int)) ∈ lw_all := lw_g (lw_at lw_m12 80 rfl) rfl
theorem q2858 : (Jvm.Cond.instanceMethod ({ cls := "AcousticCamera$State", name := "clean", desc := "(I)I" } : Jvm.MethodName)) ∈ lw_all := lw_g (lw_at lw_m12 82 rfl) rfl
theorem q2859 : (Jvm.Cond.selects "AcousticCamera$State" ({ cls := "AcousticCamera$State", name := "clean", desc := "(I)I" } : Jvm.MethodName) ({ cls := "AcousticCamera$State", name := "clean", desc := "(I)I" } : Jvm.MethodName)) ∈ lw_all := lw_g (lw_at lw_m12 83 rfl) rfl
theorem q2860 : (Jvm.Cond.code ({ cls := "AcousticCamera$State", name := "clean", desc := "(I)I" } : Jvm.MethodName) prog_9_method_32_code (7 : Nat) (Option.some Jvm.ClassFile.FieldType.int)) ∈ lw_all := lw_g (lw_at lw_m12 84 rfl) rfl
theorem q2861 : (Jvm.Cond.methodLink "AcousticCamera$State" (283 : Nat) ({ cls := "AcousticCamera$State", name := "weightSum", desc := "()I" } : Jvm.MethodName)) ∈ lw_all := lw_g (lw_at lw_m12 85 rfl) rfl
theorem q3662 : (Jvm.Cond.castable "AcousticCamera$State" "java/lang/Object") ∈ lw_tbl := lw_at lw_m15 166 rfl
theorem q151 : (Jvm.Cond.initialized "AcousticCamera$Parser") ∈ lw_all := lw_g (lw_at lw_m1 15 rfl) rfl
theorem q475 : (Jvm.Cond.instantiable "AcousticCamera$Parser" (7 : Nat)) ∈ lw_all := lw_g (lw_at lw_m2 99 rfl) rfl
theorem q477 : (Jvm.Cond.instanceMethod ({ cls := "AcousticCamera$Parser", name := "<init>", desc := "([BI)V" } : Jvm.MethodName)) ∈ lw_all := lw_g (lw_at lw_m2 101 rfl) rfl
theorem q478 : (Jvm.Cond.code ({ cls := "AcousticCamera$Parser", name := "<init>", desc := "([BI)V" } : Jvm.MethodName) prog_5_method_1_code (3 : Nat) (Option.none : Option Jvm.ClassFile.FieldType)) ∈ lw_all := lw_g (lw_at lw_m2 102 rfl) rfl
theorem q479 : (Jvm.Cond.methodLink "AcousticCamera$Parser" (3 : Nat) ({ cls := "java/lang/Object", name := "<init>", desc := "()V" } : Jvm.MethodName)) ∈ lw_all := lw_g (lw_at lw_m2 103 rfl) rfl
theorem q480 : (Jvm.Cond.stringRef "AcousticCamera$Parser" (9 : Nat) "") ∈ lw_tbl := lw_at lw_m2 104 rfl
theorem q481 : (Jvm.Cond.classLink "AcousticCamera$Parser" (17 : Nat) "AcousticCamera$Setup") ∈ lw_all := lw_g (lw_at lw_m2 105 rfl) rfl
theorem q483 : (Jvm.Cond.methodLinkNest "AcousticCamera$Parser" (19 : Nat) ({ cls := "AcousticCamera$Setup", name := "<init>", desc := "()V" } : Jvm.MethodName) "AcousticCamera") ∈ lw_tbl := lw_at lw_m2 107 rfl
theorem q775 : (Jvm.Cond.fieldLinkNest "AcousticCamera$Parser" (146 : Nat) "AcousticCamera$Setup" "mics" "Ljava/util/List;" "AcousticCamera") ∈ lw_tbl := lw_at lw_m3 159 rfl
theorem q778 : (Jvm.Cond.fieldLinkNest "AcousticCamera$Parser" (208 : Nat) "AcousticCamera$Setup" "walls" "Ljava/util/List;" "AcousticCamera") ∈ lw_tbl := lw_at lw_m3 162 rfl
theorem q780 : (Jvm.Cond.fieldLinkNest "AcousticCamera$Parser" (229 : Nat) "AcousticCamera$Setup" "zones" "Ljava/util/List;" "AcousticCamera") ∈ lw_tbl := lw_at lw_m3 164 rfl
theorem q785 : (Jvm.Cond.fieldLinkNest "AcousticCamera$Parser" (255 : Nat) "AcousticCamera$Setup" "offsets" "[I" "AcousticCamera") ∈ lw_tbl := lw_at lw_m3 169 rfl
theorem q788 : (Jvm.Cond.fieldLinkNest "AcousticCamera$Parser" (216 : Nat) "AcousticCamera$Setup" "filter" "[I" "AcousticCamera") ∈ lw_tbl := lw_at lw_m3 172 rfl
theorem q791 : (Jvm.Cond.fieldLinkNest "AcousticCamera$Parser" (223 : Nat) "AcousticCamera$Setup" "shade" "[I" "AcousticCamera") ∈ lw_tbl := lw_at lw_m3 175 rfl
theorem q794 : (Jvm.Cond.fieldLinkNest "AcousticCamera$Parser" (258 : Nat) "AcousticCamera$Setup" "off" "Ljava/util/BitSet;" "AcousticCamera") ∈ lw_tbl := lw_at lw_m3 178 rfl
theorem q797 : (Jvm.Cond.fieldLinkNest "AcousticCamera$Parser" (203 : Nat) "AcousticCamera$Setup" "sources" "Ljava/util/List;" "AcousticCamera") ∈ lw_tbl := lw_at lw_m3 181 rfl
theorem q799 : (Jvm.Cond.fieldLinkNest "AcousticCamera$Parser" (125 : Nat) "AcousticCamera$Setup" "distance" "I" "AcousticCamera") ∈ lw_tbl := lw_at lw_m3 183 rfl
theorem q801 : (Jvm.Cond.fieldLinkNest "AcousticCamera$Parser" (129 : Nat) "AcousticCamera$Setup" "step" "I" "AcousticCamera") ∈ lw_tbl := lw_at lw_m3 185 rfl
theorem q803 : (Jvm.Cond.fieldLinkNest "AcousticCamera$Parser" (133 : Nat) "AcousticCamera$Setup" "samples" "I" "AcousticCamera") ∈ lw_tbl := lw_at lw_m3 187 rfl
theorem q806 : (Jvm.Cond.fieldLinkNest "AcousticCamera$Parser" (137 : Nat) "AcousticCamera$Setup" "limit" "I" "AcousticCamera") ∈ lw_tbl := lw_at lw_m3 190 rfl
theorem q808 : (Jvm.Cond.fieldLinkNest "AcousticCamera$Parser" (214 : Nat) "AcousticCamera$Setup" "fade" "I" "AcousticCamera") ∈ lw_tbl := lw_at lw_m3 192 rfl
theorem q810 : (Jvm.Cond.fieldLinkNest "AcousticCamera$Parser" (234 : Nat) "AcousticCamera$Setup" "x" "I" "AcousticCamera") ∈ lw_tbl := lw_at lw_m3 194 rfl
theorem q812 : (Jvm.Cond.fieldLinkNest "AcousticCamera$Parser" (237 : Nat) "AcousticCamera$Setup" "y" "I" "AcousticCamera") ∈ lw_tbl := lw_at lw_m3 196 rfl
theorem q814 : (Jvm.Cond.fieldLinkNest "AcousticCamera$Parser" (240 : Nat) "AcousticCamera$Setup" "cell" "I" "AcousticCamera") ∈ lw_tbl := lw_at lw_m3 198 rfl
theorem q816 : (Jvm.Cond.fieldLinkNest "AcousticCamera$Parser" (246 : Nat) "AcousticCamera$Setup" "columns" "I" "AcousticCamera") ∈ lw_tbl := lw_at lw_m3 200 rfl
theorem q820 : (Jvm.Cond.fieldLinkNest "AcousticCamera$Parser" (243 : Nat) "AcousticCamera$Setup" "rows" "I" "AcousticCamera") ∈ lw_tbl := lw_at lw_m3 204 rfl
theorem q865 : (Jvm.Cond.fieldLink "AcousticCamera$Parser" (24 : Nat) "AcousticCamera$Parser" "text" "[B") ∈ lw_all := lw_g (lw_at lw_m4 9 rfl) rfl
theorem q866 : (Jvm.Cond.fieldLink "AcousticCamera$Parser" (28 : Nat) "AcousticCamera$Parser" "length" "I") ∈ lw_all := lw_g (lw_at lw_m4 10 rfl) rfl
theorem q867 : (Jvm.Cond.fieldLink "AcousticCamera$Parser" (32 : Nat) "AcousticCamera$Parser" "next" "I") ∈ lw_all := lw_g (lw_at lw_m4 11 rfl) rfl
theorem q868 : (Jvm.Cond.fieldLink "AcousticCamera$Parser" (39 : Nat) "AcousticCamera$Parser" "start" "I") ∈ lw_all := lw_g (lw_at lw_m4 12 rfl) rfl
theorem q869 : (Jvm.Cond.fieldLink "AcousticCamera$Parser" (67 : Nat) "AcousticCamera$Parser" "number" "I") ∈ lw_all := lw_g (lw_at lw_m4 13 rfl) rfl
theorem q870 : (Jvm.Cond.fieldLink "AcousticCamera$Parser" (11 : Nat) "AcousticCamera$Parser" "token" "Ljava/lang/String;") ∈ lw_all := lw_g (lw_at lw_m4 14 rfl) rfl
theorem q871 : (Jvm.Cond.fieldLink "AcousticCamera$Parser" (20 : Nat) "AcousticCamera$Parser" "setup" "LAcousticCamera$Setup;") ∈ lw_all := lw_g (lw_at lw_m4 15 rfl) rfl
theorem q872 : (Jvm.Cond.laysFinal "AcousticCamera$Parser" "AcousticCamera$Parser" "text" "[B") ∈ lw_all := lw_g (lw_at lw_m4 16 rfl) rfl
theorem q873 : (Jvm.Cond.soleField "AcousticCamera$Parser" "text") ∈ lw_all := lw_g (lw_at lw_m4 17 rfl) rfl
theorem q874 : (Jvm.Cond.laysFinal "AcousticCamera$Parser" "AcousticCamera$Parser" "length" "I") ∈ lw_all := lw_g (lw_at lw_m4 18 rfl) rfl
theorem q875 : (Jvm.Cond.soleField "AcousticCamera$Parser" "length") ∈ lw_all := lw_g (lw_at lw_m4 19 rfl) rfl
theorem q876 : (Jvm.Cond.lays "AcousticCamera$Parser" "AcousticCamera$Parser" "next" "I") ∈ lw_all := lw_g (lw_at lw_m4 20 rfl) rfl
theorem q877 : (Jvm.Cond.soleField "AcousticCamera$Parser" "next") ∈ lw_all := lw_g (lw_at lw_m4 21 rfl) rfl
theorem q878 : (Jvm.Cond.lays "AcousticCamera$Parser" "AcousticCamera$Parser" "start" "I") ∈ lw_all := lw_g (lw_at lw_m4 22 rfl) rfl
theorem q879 : (Jvm.Cond.soleField "AcousticCamera$Parser" "start") ∈ lw_all := lw_g (lw_at lw_m4 23 rfl) rfl
theorem q880 : (Jvm.Cond.lays "AcousticCamera$Parser" "AcousticCamera$Parser" "number" "I") ∈ lw_all := lw_g (lw_at lw_m4 24 rfl) rfl
theorem q881 : (Jvm.Cond.soleField "AcousticCamera$Parser" "number") ∈ lw_all := lw_g (lw_at lw_m4 25 rfl) rfl
theorem q882 : (Jvm.Cond.lays "AcousticCamera$Parser" "AcousticCamera$Parser" "token" "Ljava/lang/String;") ∈ lw_all := lw_g (lw_at lw_m4 26 rfl) rfl
theorem q883 : (Jvm.Cond.soleField "AcousticCamera$Parser" "token") ∈ lw_all := lw_g (lw_at lw_m4 27 rfl) rfl
theorem q884 : (Jvm.Cond.laysFinal "AcousticCamera$Parser" "AcousticCamera$Parser" "setup" "LAcousticCamera$Setup;") ∈ lw_all := lw_g (lw_at lw_m4 28 rfl) rfl
theorem q885 : (Jvm.Cond.soleField "AcousticCamera$Parser" "setup") ∈ lw_all := lw_g (lw_at lw_m4 29 rfl) rfl
theorem q886 : (Jvm.Cond.superclass "AcousticCamera$Parser" "java/lang/Object") ∈ lw_all := lw_g (lw_at lw_m4 30 rfl) rfl
theorem q888 : (Jvm.Cond.instanceMethod ({ cls := "AcousticCamera$Parser", name := "parse", desc := "()LAcousticCamera$Setup;" } : Jvm.MethodName)) ∈ lw_all := lw_g (lw_at lw_m4 32 rfl) rfl
theorem q889 : (Jvm.Cond.selects "AcousticCamera$Parser" ({ cls := "AcousticCamera$Parser", name := "parse", desc := "()LAcousticCamera$Setup;" } : Jvm.MethodName) ({ cls := "AcousticCamera$Parser", name := "parse", desc := "()LAcousticCamera$Setup;" } : Jvm.MethodName)) ∈ lw_all := lw_g (lw_at lw_m4 33 rfl) rfl
theorem q890 : (Jvm.Cond.code ({ cls := "AcousticCamera$Parser", name := "parse", desc := "()LAcousticCamera$Setup;" } : Jvm.MethodName) prog_5_method_12_code (1 : Nat) (Option.some (Jvm.ClassFile.FieldType.object "AcousticCamera$Setup"))) ∈ lw_all := lw_g (lw_at lw_m4 34 rfl) rfl
theorem q891 : (Jvm.Cond.methodLink "AcousticCamera$Parser" (98 : Nat) ({ cls := "AcousticCamera$Parser", name := "advance", desc := "()V" } : Jvm.MethodName)) ∈ lw_all := lw_g (lw_at lw_m4 35 rfl) rfl
theorem q892 : (Jvm.Cond.privateMethod ({ cls := "AcousticCamera$Parser", name := "advance", desc := "()V" } : Jvm.MethodName)) ∈ lw_tbl := lw_at lw_m4 36 rfl
theorem q893 : (Jvm.Cond.instanceMethod ({ cls := "AcousticCamera$Parser", name := "advance", desc := "()V" } : Jvm.MethodName)) ∈ lw_all := lw_g (lw_at lw_m4 37 rfl) rfl
theorem q894 : (Jvm.Cond.code ({ cls := "AcousticCamera$Parser", name := "advance", desc := "()V" } : Jvm.MethodName) prog_5_method_3_code (3 : Nat) (Option.none : Option Jvm.ClassFile.FieldType)) ∈ lw_all := lw_g (lw_at lw_m4 38 rfl) rfl
theorem q895 : (Jvm.Cond.methodLink "AcousticCamera$Parser" (35 : Nat) ({ cls := "AcousticCamera$Parser", name := "at", desc := "(I)I" } : Jvm.MethodName)) ∈ lw_all := lw_g (lw_at lw_m4 39 rfl) rfl
theorem q896 : (Jvm.Cond.privateMethod ({ cls := "AcousticCamera$Parser", name := "at", desc := "(I)I" } : Jvm.MethodName)) ∈ lw_tbl := lw_at lw_m4 40 rfl
theorem q897 : (Jvm.Cond.instanceMethod ({ cls := "AcousticCamera$Parser", name := "at", desc := "(I)I" } : Jvm.MethodName)) ∈ lw_all := lw_g (lw_at lw_m4 41 rfl) rfl
theorem q898 : (Jvm.Cond.code ({ cls := "AcousticCamera$Parser", name := "at", desc := "(I)I" } : Jvm.MethodName) prog_5_method_2_code (2 : Nat) (Option.some Jvm.ClassFile.FieldType.int)) ∈ lw_all := lw_g (lw_at lw_m4 42 rfl) rfl
theorem q899 : (Jvm.Cond.constantLong "AcousticCamera$Parser" (42 : Nat) (97 : Int64)) ∈ lw_all := lw_g (lw_at lw_m4 43 rfl) rfl
theorem q900 : (Jvm.Cond.constantLong "AcousticCamera$Parser" (44 : Nat) (122 : Int64)) ∈ lw_all := lw_g (lw_at lw_m4 44 rfl) rfl
theorem q901 : (Jvm.Cond.methodLinkNest "AcousticCamera$Parser" (46 : Nat) ({ cls := "AcousticCamera", name := "in", desc := "(JJJ)Z" } : Jvm.MethodName) "AcousticCamera") ∈ lw_tbl := lw_at lw_m4 45 rfl
theorem q902 : (Jvm.Cond.classLink "AcousticCamera$Parser" (50 : Nat) "java/lang/StringBuilder") ∈ lw_all := lw_g (lw_at lw_m4 46 rfl) rfl
theorem q903 : (Jvm.Cond.methodLink "AcousticCamera$Parser" (52 : Nat) ({ cls := "java/lang/StringBuilder", name := "<init>", desc := "()V" } : Jvm.MethodName)) ∈ lw_all := lw_g (lw_at lw_m4 47 rfl) rfl
theorem q904 : (Jvm.Cond.methodLink "AcousticCamera$Parser" (53 : Nat) ({ cls := "java/lang/StringBuilder", name := "append", desc := "(C)Ljava/lang/StringBuilder;" } : Jvm.MethodName)) ∈ lw_all := lw_g (lw_at lw_m4 48 rfl) rfl
theorem q926 : (Jvm.Cond.stringRef "AcousticCamera$Parser" (57 : Nat) "?") ∈ lw_tbl := lw_at lw_m4 70 rfl
theorem q927 : (Jvm.Cond.methodLink "AcousticCamera$Parser" (59 : Nat) ({ cls := "java/lang/StringBuilder", name := "toString", desc := "()Ljava/lang/String;" } : Jvm.MethodName)) ∈ lw_all := lw_g (lw_at lw_m4 71 rfl) rfl
theorem q928 : (Jvm.Cond.constantLong "AcousticCamera$Parser" (63 : Nat) (48 : Int64)) ∈ lw_all := lw_g (lw_at lw_m4 72 rfl) rfl
theorem q929 : (Jvm.Cond.constantLong "AcousticCamera$Parser" (65 : Nat) (57 : Int64)) ∈ lw_all := lw_g (lw_at lw_m4 73 rfl) rfl
theorem q930 : (Jvm.Cond.constant "AcousticCamera$Parser" (70 : Nat) (99999 : Int32)) ∈ lw_all := lw_g (lw_at lw_m4 74 rfl) rfl
theorem q931 : (Jvm.Cond.methodLink "AcousticCamera$Parser" (71 : Nat) ({ cls := "java/lang/Math", name := "min", desc := "(II)I" } : Jvm.MethodName)) ∈ lw_all := lw_g (lw_at lw_m4 75 rfl) rfl
theorem q932 : (Jvm.Cond.stringRef "AcousticCamera$Parser" (77 : Nat) "#") ∈ lw_tbl := lw_at lw_m4 76 rfl
theorem q933 : (Jvm.Cond.stringRef "AcousticCamera$Parser" (79 : Nat) ";") ∈ lw_tbl := lw_at lw_m4 77 rfl
theorem q934 : (Jvm.Cond.stringRef "AcousticCamera$Parser" (81 : Nat) "-") ∈ lw_tbl := lw_at lw_m4 78 rfl
theorem q935 : (Jvm.Cond.stringRef "AcousticCamera$Parser" (118 : Nat) "camera") ∈ lw_tbl := lw_at lw_m4 79 rfl
theorem q936 : (Jvm.Cond.methodLink "AcousticCamera$Parser" (112 : Nat) ({ cls := "AcousticCamera$Parser", name := "expect", desc := "(Ljava/lang/String;)V" } : Jvm.MethodName)) ∈ lw_all := lw_g (lw_at lw_m4 80 rfl) rfl
theorem q937 : (Jvm.Cond.privateMethod ({ cls := "AcousticCamera$Parser", name := "expect", desc := "(Ljava/lang/String;)V" } : Jvm.MethodName)) ∈ lw_tbl := lw_at lw_m4 81 rfl
theorem q938 : (Jvm.Cond.instanceMethod ({ cls := "AcousticCamera$Parser", name := "expect", desc := "(Ljava/lang/String;)V" } : Jvm.MethodName)) ∈ lw_all := lw_g (lw_at lw_m4 82 rfl) rfl
theorem q939 : (Jvm.Cond.code ({ cls := "AcousticCamera$Parser", name := "expect", desc := "(Ljava/lang/String;)V" } : Jvm.MethodName) prog_5_method_7_code (2 : Nat) (Option.none : Option Jvm.ClassFile.FieldType)) ∈ lw_all := lw_g (lw_at lw_m4 83 rfl) rfl
theorem q940 : (Jvm.Cond.methodLink "AcousticCamera$Parser" (101 : Nat) ({ cls := "AcousticCamera$Parser", name := "takes", desc := "(Ljava/lang/String;)Z" } : Jvm.MethodName)) ∈ lw_all := lw_g (lw_at lw_m4 84 rfl) rfl
theorem q941 : (Jvm.Cond.privateMethod ({ cls := "AcousticCamera$Parser", name := "takes", desc := "(Ljava/lang/String;)Z" } : Jvm.MethodName)) ∈ lw_tbl := lw_at lw_m4 85 rfl
theorem q942 : (Jvm.Cond.instanceMethod ({ cls := "AcousticCamera$Parser", name := "takes", desc := "(Ljava/lang/String;)Z" } : Jvm.MethodName)) ∈ lw_all := lw_g (lw_at lw_m4 86 rfl) rfl
theorem q943 : (Jvm.Cond.code ({ cls := "AcousticCamera$Parser", name := "takes", desc := "(Ljava/lang/String;)Z" } : Jvm.MethodName) prog_5_method_6_code (3 : Nat) (Option.some Jvm.ClassFile.FieldType.boolean)) ∈ lw_all := lw_g (lw_at lw_m4 87 rfl) rfl
theorem q944 : (Jvm.Cond.methodLink "AcousticCamera$Parser" (94 : Nat) ({ cls := "AcousticCamera$Parser", name := "is", desc := "(Ljava/lang/String;)Z" } : Jvm.MethodName)) ∈ lw_all := lw_g (lw_at lw_m4 88 rfl) rfl
theorem q945 : (Jvm.Cond.privateMethod ({ cls := "AcousticCamera$Parser", name := "is", desc := "(Ljava/lang/String;)Z" } : Jvm.MethodName)) ∈ lw_tbl := lw_at lw_m4 89 rfl
theorem q946 : (Jvm.Cond.instanceMethod ({ cls := "AcousticCamera$Parser", name := "is", desc := "(Ljava/lang/String;)Z" } : Jvm.MethodName)) ∈ lw_all := lw_g (lw_at lw_m4 90 rfl) rfl
theorem q947 : (Jvm.Cond.code ({ cls := "AcousticCamera$Parser", name := "is", desc := "(Ljava/lang/String;)Z" } : Jvm.MethodName) prog_5_method_5_code (2 : Nat) (Option.some Jvm.ClassFile.FieldType.boolean)) ∈ lw_all := lw_g (lw_at lw_m4 91 rfl) rfl
theorem q948 : (Jvm.Cond.methodLink "AcousticCamera$Parser" (88 : Nat) ({ cls := "java/lang/String", name := "equals", desc := "(Ljava/lang/Object;)Z" } : Jvm.MethodName)) ∈ lw_all := lw_g (lw_at lw_m4 92 rfl) rfl
theorem q956 : (Jvm.Cond.methodLink "AcousticCamera$Parser" (104 : Nat) ({ cls := "AcousticCamera$Parser", name := "flaw", desc := "(I)LAcousticCamera$Flaw;" } : Jvm.MethodName)) ∈ lw_all := lw_g (lw_at lw_m4 100 rfl) rfl
theorem q957 : (Jvm.Cond.privateMethod ({ cls := "AcousticCamera$Parser", name := "flaw", desc := "(I)LAcousticCamera$Flaw;" } : Jvm.MethodName)) ∈ lw_tbl := lw_at lw_m4 101 rfl
theorem q958 : (Jvm.Cond.instanceMethod ({ cls := "AcousticCamera$Parser", name := "flaw", desc := "(I)LAcousticCamera$Flaw;" } : Jvm.MethodName)) ∈ lw_all := lw_g (lw_at lw_m4 102 rfl) rfl
theorem q959 : (Jvm.Cond.code ({ cls := "AcousticCamera$Parser", name := "flaw", desc := "(I)LAcousticCamera$Flaw;" } : Jvm.MethodName) prog_5_method_4_code (2 : Nat) (Option.some (Jvm.ClassFile.FieldType.object "AcousticCamera$Flaw"))) ∈ lw_all := lw_g (lw_at lw_m4 103 rfl) rfl
theorem q960 : (Jvm.Cond.classLink "AcousticCamera$Parser" (83 : Nat) "AcousticCamera$Flaw") ∈ lw_all := lw_g (lw_at lw_m4 104 rfl) rfl
theorem q969 : (Jvm.Cond.methodLink "AcousticCamera$Parser" (85 : Nat) ({ cls := "AcousticCamera$Flaw", name := "<init>", desc := "(II)V" } : Jvm.MethodName)) ∈ lw_all := lw_g (lw_at lw_m4 113 rfl) rfl
theorem q988 : (Jvm.Cond.stringRef "AcousticCamera$Parser" (120 : Nat) "distance") ∈ lw_tbl := lw_at lw_m4 132 rfl
theorem q989 : (Jvm.Cond.methodLink "AcousticCamera$Parser" (122 : Nat) ({ cls := "AcousticCamera$Parser", name := "number", desc := "(Ljava/lang/String;II)I" } : Jvm.MethodName)) ∈ lw_all := lw_g (lw_at lw_m4 133 rfl) rfl
theorem q990 : (Jvm.Cond.privateMethod ({ cls := "AcousticCamera$Parser", name := "number", desc := "(Ljava/lang/String;II)I" } : Jvm.MethodName)) ∈ lw_tbl := lw_at lw_m4 134 rfl
theorem q991 : (Jvm.Cond.instanceMethod ({ cls := "AcousticCamera$Parser", name := "number", desc := "(Ljava/lang/String;II)I" } : Jvm.MethodName)) ∈ lw_all := lw_g (lw_at lw_m4 135 rfl) rfl
theorem q992 : (Jvm.Cond.code ({ cls := "AcousticCamera$Parser", name := "number", desc := "(Ljava/lang/String;II)I" } : Jvm.MethodName) prog_5_method_10_code (4 : Nat) (Option.some Jvm.ClassFile.FieldType.int)) ∈ lw_all := lw_g (lw_at lw_m4 136 rfl) rfl
theorem q993 : (Jvm.Cond.methodLink "AcousticCamera$Parser" (116 : Nat) ({ cls := "AcousticCamera$Parser", name := "number", desc := "(II)I" } : Jvm.MethodName)) ∈ lw_all := lw_g (lw_at lw_m4 137 rfl) rfl
theorem q994 : (Jvm.Cond.privateMethod ({ cls := "AcousticCamera$Parser", name := "number", desc := "(II)I" } : Jvm.MethodName)) ∈ lw_tbl := lw_at lw_m4 138 rfl
theorem q995 : (Jvm.Cond.instanceMethod ({ cls := "AcousticCamera$Parser", name := "number", desc := "(II)I" } : Jvm.MethodName)) ∈ lw_all := lw_g (lw_at lw_m4 139 rfl) rfl
theorem q996 : (Jvm.Cond.code ({ cls := "AcousticCamera$Parser", name := "number", desc := "(II)I" } : Jvm.MethodName) prog_5_method_9_code (3 : Nat) (Option.some Jvm.ClassFile.FieldType.int)) ∈ lw_all := lw_g (lw_at lw_m4 140 rfl) rfl
theorem q997 : (Jvm.Cond.methodLink "AcousticCamera$Parser" (108 : Nat) ({ cls := "AcousticCamera$Parser", name := "signedBy", desc := "(III)I" } : Jvm.MethodName)) ∈ lw_all := lw_g (lw_at lw_m4 141 rfl) rfl
theorem q998 : (Jvm.Cond.privateMethod ({ cls := "AcousticCamera$Parser", name := "signedBy", desc := "(III)I" } : Jvm.MethodName)) ∈ lw_tbl := lw_at lw_m4 142 rfl
theorem q999 : (Jvm.Cond.instanceMethod ({ cls := "AcousticCamera$Parser", name := "signedBy", desc := "(III)I" } : Jvm.MethodName)) ∈ lw_all := lw_g (lw_at lw_m4 143 rfl) rfl
theorem q1000 : (Jvm.Cond.code ({ cls := "AcousticCamera$Parser", name := "signedBy", desc := "(III)I" } : Jvm.MethodName) prog_5_method_8_code (5 : Nat) (Option.some Jvm.ClassFile.FieldType.int)) ∈ lw_all := lw_g (lw_at lw_m4 144 rfl) rfl
theorem q1001 : (Jvm.Cond.stringRef "AcousticCamera$Parser" (127 : Nat) "step") ∈ lw_tbl := lw_at lw_m4 145 rfl
theorem q1002 : (Jvm.Cond.stringRef "AcousticCamera$Parser" (131 : Nat) "samples") ∈ lw_tbl := lw_at lw_m4 146 rfl
theorem q1003 : (Jvm.Cond.stringRef "AcousticCamera$Parser" (135 : Nat) "limit") ∈ lw_tbl := lw_at lw_m4 147 rfl
theorem q1004 : (Jvm.Cond.methodLink "AcousticCamera$Parser" (139 : Nat) ({ cls := "AcousticCamera$Parser", name := "line", desc := "()V" } : Jvm.MethodName)) ∈ lw_all := lw_g (lw_at lw_m4 148 rfl) rfl
theorem q1005 : (Jvm.Cond.privateMethod ({ cls := "AcousticCamera$Parser", name := "line", desc := "()V" } : Jvm.MethodName)) ∈ lw_tbl := lw_at lw_m4 149 rfl
theorem q1006 : (Jvm.Cond.instanceMethod ({ cls := "AcousticCamera$Parser", name := "line", desc := "()V" } : Jvm.MethodName)) ∈ lw_all := lw_g (lw_at lw_m4 150 rfl) rfl
theorem q1007 : (Jvm.Cond.code ({ cls := "AcousticCamera$Parser", name := "line", desc := "()V" } : Jvm.MethodName) prog_5_method_13_code (6 : Nat) (Option.none : Option Jvm.ClassFile.FieldType)) ∈ lw_all := lw_g (lw_at lw_m4 151 rfl) rfl
theorem q1008 : (Jvm.Cond.methodLink "AcousticCamera$Parser" (160 : Nat) ({ cls := "java/lang/String", name := "hashCode", desc := "()I" } : Jvm.MethodName)) ∈ lw_all := lw_g (lw_at lw_m4 152 rfl) rfl
theorem q1069 : (Jvm.Cond.stringRef "AcousticCamera$Parser" (163 : Nat) "mic") ∈ lw_tbl := lw_at lw_m4 213 rfl
theorem q1070 : (Jvm.Cond.stringRef "AcousticCamera$Parser" (165 : Nat) "map") ∈ lw_tbl := lw_at lw_m4 214 rfl
theorem q1071 : (Jvm.Cond.stringRef "AcousticCamera$Parser" (167 : Nat) "source") ∈ lw_tbl := lw_at lw_m4 215 rfl
theorem q1072 : (Jvm.Cond.stringRef "AcousticCamera$Parser" (169 : Nat) "wall") ∈ lw_tbl := lw_at lw_m4 216 rfl
theorem q1073 : (Jvm.Cond.stringRef "AcousticCamera$Parser" (171 : Nat) "fade") ∈ lw_tbl := lw_at lw_m4 217 rfl
theorem q1074 : (Jvm.Cond.stringRef "AcousticCamera$Parser" (173 : Nat) "filter") ∈ lw_tbl := lw_at lw_m4 218 rfl
theorem q1075 : (Jvm.Cond.stringRef "AcousticCamera$Parser" (175 : Nat) "clock") ∈ lw_tbl := lw_at lw_m4 219 rfl
theorem q1076 : (Jvm.Cond.stringRef "AcousticCamera$Parser" (177 : Nat) "shade") ∈ lw_tbl := lw_at lw_m4 220 rfl
theorem q1077 : (Jvm.Cond.stringRef "AcousticCamera$Parser" (179 : Nat) "off") ∈ lw_tbl := lw_at lw_m4 221 rfl
theorem q1078 : (Jvm.Cond.stringRef "AcousticCamera$Parser" (181 : Nat) "zone") ∈ lw_tbl := lw_at lw_m4 222 rfl
theorem q1079 : (Jvm.Cond.interfaceEntry "AcousticCamera$Parser" (183 : Nat)) ∈ lw_tbl := lw_at lw_m4 223 rfl
theorem q1080 : (Jvm.Cond.methodLink "AcousticCamera$Parser" (183 : Nat) ({ cls := "java/util/List", name := "size", desc := "()I" } : Jvm.MethodName)) ∈ lw_all := lw_g (lw_at lw_m4 224 rfl) rfl
theorem q1081 : (Jvm.Cond.methodLink "AcousticCamera$Parser" (186 : Nat) ({ cls := "AcousticCamera$Parser", name := "begin", desc := "(ZI)V" } : Jvm.MethodName)) ∈ lw_all := lw_g (lw_at lw_m4 225 rfl) rfl
theorem q1082 : (Jvm.Cond.privateMethod ({ cls := "AcousticCamera$Parser", name := "begin", desc := "(ZI)V" } : Jvm.MethodName)) ∈ lw_tbl := lw_at lw_m4 226 rfl
theorem q1083 : (Jvm.Cond.instanceMethod ({ cls := "AcousticCamera$Parser", name := "begin", desc := "(ZI)V" } : Jvm.MethodName)) ∈ lw_all := lw_g (lw_at lw_m4 227 rfl) rfl
theorem q1084 : (Jvm.Cond.code ({ cls := "AcousticCamera$Parser", name := "begin", desc := "(ZI)V" } : Jvm.MethodName) prog_5_method_14_code (3 : Nat) (Option.none : Option Jvm.ClassFile.FieldType)) ∈ lw_all := lw_g (lw_at lw_m4 228 rfl) rfl
theorem q1085 : (Jvm.Cond.methodLink "AcousticCamera$Parser" (190 : Nat) ({ cls := "AcousticCamera$Parser", name := "signed", desc := "(I)I" } : Jvm.MethodName)) ∈ lw_all := lw_g (lw_at lw_m4 229 rfl) rfl
theorem q1086 : (Jvm.Cond.privateMethod ({ cls := "AcousticCamera$Parser", name := "signed", desc := "(I)I" } : Jvm.MethodName)) ∈ lw_tbl := lw_at lw_m4 230 rfl
theorem q1087 : (Jvm.Cond.instanceMethod ({ cls := "AcousticCamera$Parser", name := "signed", desc := "(I)I" } : Jvm.MethodName)) ∈ lw_all := lw_g (lw_at lw_m4 231 rfl) rfl
theorem q1088 : (Jvm.Cond.code ({ cls := "AcousticCamera$Parser", name := "signed", desc := "(I)I" } : Jvm.MethodName) prog_5_method_11_code (2 : Nat) (Option.some Jvm.ClassFile.FieldType.int)) ∈ lw_all := lw_g (lw_at lw_m4 232 rfl) rfl
theorem q1089 : (Jvm.Cond.classLink "AcousticCamera$Parser" (193 : Nat) "AcousticCamera$Mic") ∈ lw_all := lw_g (lw_at lw_m4 233 rfl) rfl
theorem q1091 : (Jvm.Cond.methodLink "AcousticCamera$Parser" (195 : Nat) ({ cls := "AcousticCamera$Mic", name := "<init>", desc := "(III)V" } : Jvm.MethodName)) ∈ lw_all := lw_g (lw_at lw_m4 235 rfl) rfl
theorem q1111 : (Jvm.Cond.interfaceEntry "AcousticCamera$Parser" (198 : Nat)) ∈ lw_tbl := lw_at lw_m5 15 rfl
theorem q1112 : (Jvm.Cond.methodLink "AcousticCamera$Parser" (198 : Nat) ({ cls := "java/util/List", name := "add", desc := "(Ljava/lang/Object;)Z" } : Jvm.MethodName)) ∈ lw_all := lw_g (lw_at lw_m5 16 rfl) rfl
theorem q1144 : (Jvm.Cond.selects "AcousticCamera$Parser" ({ cls := "java/lang/Object", name := "getClass", desc := "()Ljava/lang/Class;" } : Jvm.MethodName) ({ cls := "java/lang/Object", name := "getClass", desc := "()Ljava/lang/Class;" } : Jvm.MethodName)) ∈ lw_all := lw_g (lw_at lw_m5 48 rfl) rfl
theorem q1215 : (Jvm.Cond.methodLink "AcousticCamera$Parser" (153 : Nat) ({ cls := "AcousticCamera$Setup", name := "cells", desc := "()I" } : Jvm.MethodName)) ∈ lw_all := lw_g (lw_at lw_m5 119 rfl) rfl
theorem q1219 : (Jvm.Cond.methodLink "AcousticCamera$Parser" (201 : Nat) ({ cls := "AcousticCamera$Parser", name := "map", desc := "()V" } : Jvm.MethodName)) ∈ lw_all := lw_g (lw_at lw_m5 123 rfl) rfl
theorem q1220 : (Jvm.Cond.privateMethod ({ cls := "AcousticCamera$Parser", name := "map", desc := "()V" } : Jvm.MethodName)) ∈ lw_tbl := lw_at lw_m5 124 rfl
theorem q1221 : (Jvm.Cond.instanceMethod ({ cls := "AcousticCamera$Parser", name := "map", desc := "()V" } : Jvm.MethodName)) ∈ lw_all := lw_g (lw_at lw_m5 125 rfl) rfl
theorem q1222 : (Jvm.Cond.code ({ cls := "AcousticCamera$Parser", name := "map", desc := "()V" } : Jvm.MethodName) prog_5_method_15_code (2 : Nat) (Option.none : Option Jvm.ClassFile.FieldType)) ∈ lw_all := lw_g (lw_at lw_m5 126 rfl) rfl
theorem q1223 : (Jvm.Cond.methodLink "AcousticCamera$Parser" (206 : Nat) ({ cls := "AcousticCamera$Parser", name := "source", desc := "()V" } : Jvm.MethodName)) ∈ lw_all := lw_g (lw_at lw_m5 127 rfl) rfl
theorem q1224 : (Jvm.Cond.privateMethod ({ cls := "AcousticCamera$Parser", name := "source", desc := "()V" } : Jvm.MethodName)) ∈ lw_tbl := lw_at lw_m5 128 rfl
theorem q1225 : (Jvm.Cond.instanceMethod ({ cls := "AcousticCamera$Parser", name := "source", desc := "()V" } : Jvm.MethodName)) ∈ lw_all := lw_g (lw_at lw_m5 129 rfl) rfl
theorem q1226 : (Jvm.Cond.code ({ cls := "AcousticCamera$Parser", name := "source", desc := "()V" } : Jvm.MethodName) prog_5_method_21_code (10 : Nat) (Option.none : Option Jvm.ClassFile.FieldType)) ∈ lw_all := lw_g (lw_at lw_m5 130 rfl) rfl
theorem q1227 : (Jvm.Cond.stringRef "AcousticCamera$Parser" (276 : Nat) "square") ∈ lw_tbl := lw_at lw_m5 131 rfl
theorem q1228 : (Jvm.Cond.stringRef "AcousticCamera$Parser" (278 : Nat) "triangle") ∈ lw_tbl := lw_at lw_m5 132 rfl
theorem q1229 : (Jvm.Cond.stringRef "AcousticCamera$Parser" (280 : Nat) "pulse") ∈ lw_tbl := lw_at lw_m5 133 rfl
theorem q1230 : (Jvm.Cond.stringRef "AcousticCamera$Parser" (282 : Nat) "noise") ∈ lw_tbl := lw_at lw_m5 134 rfl
theorem q1231 : (Jvm.Cond.methodLink "AcousticCamera$Parser" (284 : Nat) ({ cls := "java/util/List", name := "of", desc := "(Ljava/lang/Object;Ljava/lang/Object;Ljava/lang/Object;Ljava/lang/Object;)Ljava/util/List;" } : Jvm.MethodName)) ∈ lw_all := lw_g (lw_at lw_m5 135 rfl) rfl
theorem q1283 : (Jvm.Cond.interfaceEntry "AcousticCamera$Parser" (288 : Nat)) ∈ lw_tbl := lw_at lw_m5 187 rfl
theorem q1284 : (Jvm.Cond.methodLink "AcousticCamera$Parser" (288 : Nat) ({ cls := "java/util/List", name := "contains", desc := "(Ljava/lang/Object;)Z" } : Jvm.MethodName)) ∈ lw_all := lw_g (lw_at lw_m5 188 rfl) rfl
theorem q1307 : (Jvm.Cond.selects "AcousticCamera$Parser" ({ cls := "java/lang/Object", name := "equals", desc := "(Ljava/lang/Object;)Z" } : Jvm.MethodName) ({ cls := "java/lang/Object", name := "equals", desc := "(Ljava/lang/Object;)Z" } : Jvm.MethodName)) ∈ lw_all := lw_g (lw_at lw_m5 211 rfl) rfl
theorem q1361 : (Jvm.Cond.stringRef "AcousticCamera$Parser" (291 : Nat) "from") ∈ lw_tbl := lw_at lw_m6 25 rfl
theorem q1362 : (Jvm.Cond.classLink "AcousticCamera$Parser" (293 : Nat) "AcousticCamera$Source") ∈ lw_all := lw_g (lw_at lw_m6 26 rfl) rfl
theorem q1364 : (Jvm.Cond.methodLink "AcousticCamera$Parser" (295 : Nat) ({ cls := "AcousticCamera$Parser", name := "wave", desc := "(Ljava/lang/String;III)LAcousticCamera$Wave;" } : Jvm.MethodName)) ∈ lw_all := lw_g (lw_at lw_m6 28 rfl) rfl
theorem q1365 : (Jvm.Cond.static ({ cls := "AcousticCamera$Parser", name := "wave", desc := "(Ljava/lang/String;III)LAcousticCamera$Wave;" } : Jvm.MethodName)) ∈ lw_all := lw_g (lw_at lw_m6 29 rfl) rfl
theorem q1366 : (Jvm.Cond.code ({ cls := "AcousticCamera$Parser", name := "wave", desc := "(Ljava/lang/String;III)LAcousticCamera$Wave;" } : Jvm.MethodName) prog_5_method_22_code (6 : Nat) (Option.some (Jvm.ClassFile.FieldType.object "AcousticCamera$Wave"))) ∈ lw_all := lw_g (lw_at lw_m6 30 rfl) rfl
theorem q1367 : (Jvm.Cond.methodLink "AcousticCamera$Parser" (302 : Nat) ({ cls := "AcousticCamera$Waves", name := "square", desc := "(III)LAcousticCamera$Wave;" } : Jvm.MethodName)) ∈ lw_all := lw_g (lw_at lw_m6 31 rfl) rfl
theorem q1372 : (Jvm.Cond.methodLink "AcousticCamera$Parser" (307 : Nat) ({ cls := "AcousticCamera$Waves", name := "triangle", desc := "(III)LAcousticCamera$Wave;" } : Jvm.MethodName)) ∈ lw_all := lw_g (lw_at lw_m6 36 rfl) rfl
theorem q1380 : (Jvm.Cond.methodLink "AcousticCamera$Parser" (309 : Nat) ({ cls := "AcousticCamera$Waves", name := "pulse", desc := "(III)LAcousticCamera$Wave;" } : Jvm.MethodName)) ∈ lw_all := lw_g (lw_at lw_m6 44 rfl) rfl
theorem q1385 : (Jvm.Cond.methodLink "AcousticCamera$Parser" (311 : Nat) ({ cls := "AcousticCamera$Waves", name := "noise", desc := "(II)LAcousticCamera$Wave;" } : Jvm.MethodName)) ∈ lw_all := lw_g (lw_at lw_m6 49 rfl) rfl
theorem q1393 : (Jvm.Cond.methodLink "AcousticCamera$Parser" (299 : Nat) ({ cls := "AcousticCamera$Source", name := "<init>", desc := "(LAcousticCamera$Wave;IIIII)V" } : Jvm.MethodName)) ∈ lw_all := lw_g (lw_at lw_m6 57 rfl) rfl
theorem q1422 : (Jvm.Cond.classLink "AcousticCamera$Parser" (211 : Nat) "AcousticCamera$Wall") ∈ lw_all := lw_g (lw_at lw_m6 86 rfl) rfl
theorem q1424 : (Jvm.Cond.methodLink "AcousticCamera$Parser" (213 : Nat) ({ cls := "AcousticCamera$Wall", name := "<init>", desc := "(II)V" } : Jvm.MethodName)) ∈ lw_all := lw_g (lw_at lw_m6 88 rfl) rfl
theorem q1437 : (Jvm.Cond.methodLink "AcousticCamera$Parser" (219 : Nat) ({ cls := "AcousticCamera$Parser", name := "filter", desc := "()V" } : Jvm.MethodName)) ∈ lw_all := lw_g (lw_at lw_m6 101 rfl) rfl
theorem q1438 : (Jvm.Cond.privateMethod ({ cls := "AcousticCamera$Parser", name := "filter", desc := "()V" } : Jvm.MethodName)) ∈ lw_tbl := lw_at lw_m6 102 rfl
theorem q1439 : (Jvm.Cond.instanceMethod ({ cls := "AcousticCamera$Parser", name := "filter", desc := "()V" } : Jvm.MethodName)) ∈ lw_all := lw_g (lw_at lw_m6 103 rfl) rfl
theorem q1440 : (Jvm.Cond.code ({ cls := "AcousticCamera$Parser", name := "filter", desc := "()V" } : Jvm.MethodName) prog_5_method_16_code (3 : Nat) (Option.none : Option Jvm.ClassFile.FieldType)) ∈ lw_all := lw_g (lw_at lw_m6 104 rfl) rfl
theorem q1441 : (Jvm.Cond.methodLink "AcousticCamera$Parser" (249 : Nat) ({ cls := "java/lang/System", name := "arraycopy", desc := "(Ljava/lang/Object;ILjava/lang/Object;II)V" } : Jvm.MethodName)) ∈ lw_all := lw_g (lw_at lw_m6 105 rfl) rfl
theorem q1442 : (Jvm.Cond.methodLink "AcousticCamera$Parser" (221 : Nat) ({ cls := "AcousticCamera$Parser", name := "clock", desc := "()V" } : Jvm.MethodName)) ∈ lw_all := lw_g (lw_at lw_m6 106 rfl) rfl
theorem q1443 : (Jvm.Cond.privateMethod ({ cls := "AcousticCamera$Parser", name := "clock", desc := "()V" } : Jvm.MethodName)) ∈ lw_tbl := lw_at lw_m6 107 rfl
theorem q1444 : (Jvm.Cond.instanceMethod ({ cls := "AcousticCamera$Parser", name := "clock", desc := "()V" } : Jvm.MethodName)) ∈ lw_all := lw_g (lw_at lw_m6 108 rfl) rfl
theorem q1445 : (Jvm.Cond.code ({ cls := "AcousticCamera$Parser", name := "clock", desc := "()V" } : Jvm.MethodName) prog_5_method_17_code (2 : Nat) (Option.none : Option Jvm.ClassFile.FieldType)) ∈ lw_all := lw_g (lw_at lw_m6 109 rfl) rfl
theorem q1446 : (Jvm.Cond.methodLink "AcousticCamera$Parser" (225 : Nat) ({ cls := "AcousticCamera$Parser", name := "shade", desc := "()V" } : Jvm.MethodName)) ∈ lw_all := lw_g (lw_at lw_m6 110 rfl) rfl
theorem q1447 : (Jvm.Cond.privateMethod ({ cls := "AcousticCamera$Parser", name := "shade", desc := "()V" } : Jvm.MethodName)) ∈ lw_tbl := lw_at lw_m6 111 rfl
theorem q1448 : (Jvm.Cond.instanceMethod ({ cls := "AcousticCamera$Parser", name := "shade", desc := "()V" } : Jvm.MethodName)) ∈ lw_all := lw_g (lw_at lw_m6 112 rfl) rfl
theorem q1449 : (Jvm.Cond.code ({ cls := "AcousticCamera$Parser", name := "shade", desc := "()V" } : Jvm.MethodName) prog_5_method_18_code (3 : Nat) (Option.none : Option Jvm.ClassFile.FieldType)) ∈ lw_all := lw_g (lw_at lw_m6 113 rfl) rfl
theorem q1450 : (Jvm.Cond.methodLink "AcousticCamera$Parser" (227 : Nat) ({ cls := "AcousticCamera$Parser", name := "off", desc := "()V" } : Jvm.MethodName)) ∈ lw_all := lw_g (lw_at lw_m6 114 rfl) rfl
theorem q1451 : (Jvm.Cond.privateMethod ({ cls := "AcousticCamera$Parser", name := "off", desc := "()V" } : Jvm.MethodName)) ∈ lw_tbl := lw_at lw_m6 115 rfl
theorem q1452 : (Jvm.Cond.instanceMethod ({ cls := "AcousticCamera$Parser", name := "off", desc := "()V" } : Jvm.MethodName)) ∈ lw_all := lw_g (lw_at lw_m6 116 rfl) rfl
theorem q1453 : (Jvm.Cond.code ({ cls := "AcousticCamera$Parser", name := "off", desc := "()V" } : Jvm.MethodName) prog_5_method_19_code (1 : Nat) (Option.none : Option Jvm.ClassFile.FieldType)) ∈ lw_all := lw_g (lw_at lw_m6 117 rfl) rfl
theorem q1454 : (Jvm.Cond.methodLink "AcousticCamera$Parser" (261 : Nat) ({ cls := "java/util/BitSet", name := "get", desc := "(I)Z" } : Jvm.MethodName)) ∈ lw_all := lw_g (lw_at lw_m6 118 rfl) rfl
theorem q1472 : (Jvm.Cond.methodLink "AcousticCamera$Parser" (267 : Nat) ({ cls := "java/util/BitSet", name := "set", desc := "(I)V" } : Jvm.MethodName)) ∈ lw_all := lw_g (lw_at lw_m6 136 rfl) rfl
theorem q1493 : (Jvm.Cond.methodLink "AcousticCamera$Parser" (232 : Nat) ({ cls := "AcousticCamera$Parser", name := "zone", desc := "()V" } : Jvm.MethodName)) ∈ lw_all := lw_g (lw_at lw_m6 157 rfl) rfl
theorem q1494 : (Jvm.Cond.privateMethod ({ cls := "AcousticCamera$Parser", name := "zone", desc := "()V" } : Jvm.MethodName)) ∈ lw_tbl := lw_at lw_m6 158 rfl
theorem q1495 : (Jvm.Cond.instanceMethod ({ cls := "AcousticCamera$Parser", name := "zone", desc := "()V" } : Jvm.MethodName)) ∈ lw_all := lw_g (lw_at lw_m6 159 rfl) rfl
theorem q1496 : (Jvm.Cond.code ({ cls := "AcousticCamera$Parser", name := "zone", desc := "()V" } : Jvm.MethodName) prog_5_method_20_code (4 : Nat) (Option.none : Option Jvm.ClassFile.FieldType)) ∈ lw_all := lw_g (lw_at lw_m6 160 rfl) rfl
theorem q1497 : (Jvm.Cond.classLink "AcousticCamera$Parser" (271 : Nat) "AcousticCamera$Zone") ∈ lw_all := lw_g (lw_at lw_m6 161 rfl) rfl
theorem q1499 : (Jvm.Cond.methodLink "AcousticCamera$Parser" (273 : Nat) ({ cls := "AcousticCamera$Zone", name := "<init>", desc := "(IIII)V" } : Jvm.MethodName)) ∈ lw_all := lw_g (lw_at lw_m6 163 rfl) rfl
theorem q1516 : (Jvm.Cond.methodLink "AcousticCamera$Parser" (142 : Nat) ({ cls := "java/lang/String", name := "isEmpty", desc := "()Z" } : Jvm.MethodName)) ∈ lw_all := lw_g (lw_at lw_m6 180 rfl) rfl
theorem q1520 : (Jvm.Cond.interfaceEntry "AcousticCamera$Parser" (150 : Nat)) ∈ lw_tbl := lw_at lw_m6 184 rfl
theorem q1521 : (Jvm.Cond.methodLink "AcousticCamera$Parser" (150 : Nat) ({ cls := "java/util/List", name := "isEmpty", desc := "()Z" } : Jvm.MethodName)) ∈ lw_all := lw_g (lw_at lw_m6 185 rfl) rfl
theorem q1552 : (Jvm.Cond.methodLink "AcousticCamera$Parser" (157 : Nat) ({ cls := "AcousticCamera$Setup", name := "lay", desc := "()V" } : Jvm.MethodName)) ∈ lw_all := lw_g (lw_at lw_m6 216 rfl) rfl
theorem q3670 : (Jvm.Cond.castable "AcousticCamera$Parser" "java/lang/Object") ∈ lw_tbl := lw_at lw_m15 174 rfl
theorem q152 : (Jvm.Cond.initialized "AcousticCamera$Setup") ∈ lw_all := lw_g (lw_at lw_m1 16 rfl) rfl
theorem q482 : (Jvm.Cond.instantiable "AcousticCamera$Setup" (19 : Nat)) ∈ lw_all := lw_g (lw_at lw_m2 106 rfl) rfl
theorem q484 : (Jvm.Cond.instanceMethod ({ cls := "AcousticCamera$Setup", name := "<init>", desc := "()V" } : Jvm.MethodName)) ∈ lw_all := lw_g (lw_at lw_m2 108 rfl) rfl
theorem q485 : (Jvm.Cond.code ({ cls := "AcousticCamera$Setup", name := "<init>", desc := "()V" } : Jvm.MethodName) prog_7_method_1_code (1 : Nat) (Option.none : Option Jvm.ClassFile.FieldType)) ∈ lw_all := lw_g (lw_at lw_m2 109 rfl) rfl
theorem q486 : (Jvm.Cond.methodLink "AcousticCamera$Setup" (3 : Nat) ({ cls := "java/lang/Object", name := "<init>", desc := "()V" } : Jvm.MethodName)) ∈ lw_all := lw_g (lw_at lw_m2 110 rfl) rfl
theorem q487 : (Jvm.Cond.classLink "AcousticCamera$Setup" (9 : Nat) "java/util/ArrayList") ∈ lw_all := lw_g (lw_at lw_m2 111 rfl) rfl
theorem q489 : (Jvm.Cond.methodLink "AcousticCamera$Setup" (11 : Nat) ({ cls := "java/util/ArrayList", name := "<init>", desc := "(I)V" } : Jvm.MethodName)) ∈ lw_all := lw_g (lw_at lw_m2 113 rfl) rfl
theorem q746 : (Jvm.Cond.classLink "AcousticCamera$Setup" (36 : Nat) "java/util/BitSet") ∈ lw_all := lw_g (lw_at lw_m3 130 rfl) rfl
theorem q748 : (Jvm.Cond.methodLink "AcousticCamera$Setup" (38 : Nat) ({ cls := "java/util/BitSet", name := "<init>", desc := "(I)V" } : Jvm.MethodName)) ∈ lw_all := lw_g (lw_at lw_m3 132 rfl) rfl
theorem q770 : (Jvm.Cond.classLink "AcousticCamera$Setup" (46 : Nat) "[[I") ∈ lw_all := lw_g (lw_at lw_m3 154 rfl) rfl
theorem q772 : (Jvm.Cond.fieldLink "AcousticCamera$Setup" (14 : Nat) "AcousticCamera$Setup" "mics" "Ljava/util/List;") ∈ lw_all := lw_g (lw_at lw_m3 156 rfl) rfl
theorem q776 : (Jvm.Cond.fieldLink "AcousticCamera$Setup" (20 : Nat) "AcousticCamera$Setup" "walls" "Ljava/util/List;") ∈ lw_all := lw_g (lw_at lw_m3 160 rfl) rfl
theorem q779 : (Jvm.Cond.fieldLink "AcousticCamera$Setup" (23 : Nat) "AcousticCamera$Setup" "zones" "Ljava/util/List;") ∈ lw_all := lw_g (lw_at lw_m3 163 rfl) rfl
theorem q783 : (Jvm.Cond.fieldLink "AcousticCamera$Setup" (26 : Nat) "AcousticCamera$Setup" "offsets" "[I") ∈ lw_all := lw_g (lw_at lw_m3 167 rfl) rfl
theorem q786 : (Jvm.Cond.fieldLink "AcousticCamera$Setup" (30 : Nat) "AcousticCamera$Setup" "filter" "[I") ∈ lw_all := lw_g (lw_at lw_m3 170 rfl) rfl
theorem q789 : (Jvm.Cond.fieldLink "AcousticCamera$Setup" (33 : Nat) "AcousticCamera$Setup" "shade" "[I") ∈ lw_all := lw_g (lw_at lw_m3 173 rfl) rfl
theorem q792 : (Jvm.Cond.fieldLink "AcousticCamera$Setup" (39 : Nat) "AcousticCamera$Setup" "off" "Ljava/util/BitSet;") ∈ lw_all := lw_g (lw_at lw_m3 176 rfl) rfl
theorem q796 : (Jvm.Cond.fieldLink "AcousticCamera$Setup" (43 : Nat) "AcousticCamera$Setup" "sources" "Ljava/util/List;") ∈ lw_all := lw_g (lw_at lw_m3 180 rfl) rfl
theorem q798 : (Jvm.Cond.fieldLink "AcousticCamera$Setup" (77 : Nat) "AcousticCamera$Setup" "distance" "I") ∈ lw_all := lw_g (lw_at lw_m3 182 rfl) rfl
theorem q800 : (Jvm.Cond.fieldLink "AcousticCamera$Setup" (84 : Nat) "AcousticCamera$Setup" "step" "I") ∈ lw_all := lw_g (lw_at lw_m3 184 rfl) rfl
theorem q809 : (Jvm.Cond.fieldLink "AcousticCamera$Setup" (58 : Nat) "AcousticCamera$Setup" "x" "I") ∈ lw_all := lw_g (lw_at lw_m3 193 rfl) rfl
theorem q811 : (Jvm.Cond.fieldLink "AcousticCamera$Setup" (64 : Nat) "AcousticCamera$Setup" "y" "I") ∈ lw_all := lw_g (lw_at lw_m3 195 rfl) rfl
theorem q813 : (Jvm.Cond.fieldLink "AcousticCamera$Setup" (61 : Nat) "AcousticCamera$Setup" "cell" "I") ∈ lw_all := lw_g (lw_at lw_m3 197 rfl) rfl
theorem q815 : (Jvm.Cond.fieldLink "AcousticCamera$Setup" (51 : Nat) "AcousticCamera$Setup" "columns" "I") ∈ lw_all := lw_g (lw_at lw_m3 199 rfl) rfl
theorem q819 : (Jvm.Cond.fieldLink "AcousticCamera$Setup" (55 : Nat) "AcousticCamera$Setup" "rows" "I") ∈ lw_all := lw_g (lw_at lw_m3 203 rfl) rfl
theorem q823 : (Jvm.Cond.fieldLink "AcousticCamera$Setup" (48 : Nat) "AcousticCamera$Setup" "delays" "[[I") ∈ lw_all := lw_g (lw_at lw_m3 207 rfl) rfl
theorem q826 : (Jvm.Cond.laysFinal "AcousticCamera$Setup" "AcousticCamera$Setup" "mics" "Ljava/util/List;") ∈ lw_all := lw_g (lw_at lw_m3 210 rfl) rfl
theorem q827 : (Jvm.Cond.soleField "AcousticCamera$Setup" "mics") ∈ lw_all := lw_g (lw_at lw_m3 211 rfl) rfl
theorem q828 : (Jvm.Cond.laysFinal "AcousticCamera$Setup" "AcousticCamera$Setup" "walls" "Ljava/util/List;") ∈ lw_all := lw_g (lw_at lw_m3 212 rfl) rfl
theorem q829 : (Jvm.Cond.soleField "AcousticCamera$Setup" "walls") ∈ lw_all := lw_g (lw_at lw_m3 213 rfl) rfl
theorem q830 : (Jvm.Cond.laysFinal "AcousticCamera$Setup" "AcousticCamera$Setup" "zones" "Ljava/util/List;") ∈ lw_all := lw_g (lw_at lw_m3 214 rfl) rfl
theorem q831 : (Jvm.Cond.soleField "AcousticCamera$Setup" "zones") ∈ lw_all := lw_g (lw_at lw_m3 215 rfl) rfl
theorem q832 : (Jvm.Cond.laysFinal "AcousticCamera$Setup" "AcousticCamera$Setup" "offsets" "[I") ∈ lw_all := lw_g (lw_at lw_m3 216 rfl) rfl
theorem q833 : (Jvm.Cond.soleField "AcousticCamera$Setup" "offsets") ∈ lw_all := lw_g (lw_at lw_m3 217 rfl) rfl
theorem q834 : (Jvm.Cond.lays "AcousticCamera$Setup" "AcousticCamera$Setup" "filter" "[I") ∈ lw_all := lw_g (lw_at lw_m3 218 rfl) rfl
theorem q835 : (Jvm.Cond.soleField "AcousticCamera$Setup" "filter") ∈ lw_all := lw_g (lw_at lw_m3 219 rfl) rfl
theorem q836 : (Jvm.Cond.lays "AcousticCamera$Setup" "AcousticCamera$Setup" "shade" "[I") ∈ lw_all := lw_g (lw_at lw_m3 220 rfl) rfl
theorem q837 : (Jvm.Cond.soleField "AcousticCamera$Setup" "shade") ∈ lw_all := lw_g (lw_at lw_m3 221 rfl) rfl
theorem q838 : (Jvm.Cond.laysFinal "AcousticCamera$Setup" "AcousticCamera$Setup" "off" "Ljava/util/BitSet;") ∈ lw_all := lw_g (lw_at lw_m3 222 rfl) rfl
theorem q839 : (Jvm.Cond.soleField "AcousticCamera$Setup" "off") ∈ lw_all := lw_g (lw_at lw_m3 223 rfl) rfl
theorem q840 : (Jvm.Cond.laysFinal "AcousticCamera$Setup" "AcousticCamera$Setup" "sources" "Ljava/util/List;") ∈ lw_all := lw_g (lw_at lw_m3 224 rfl) rfl
theorem q841 : (Jvm.Cond.soleField "AcousticCamera$Setup" "sources") ∈ lw_all := lw_g (lw_at lw_m3 225 rfl) rfl
theorem q842 : (Jvm.Cond.lays "AcousticCamera$Setup" "AcousticCamera$Setup" "distance" "I") ∈ lw_all := lw_g (lw_at lw_m3 226 rfl) rfl
theorem q843 : (Jvm.Cond.soleField "AcousticCamera$Setup" "distance") ∈ lw_all := lw_g (lw_at lw_m3 227 rfl) rfl
theorem q844 : (Jvm.Cond.lays "AcousticCamera$Setup" "AcousticCamera$Setup" "step" "I") ∈ lw_all := lw_g (lw_at lw_m3 228 rfl) rfl
theorem q845 : (Jvm.Cond.soleField "AcousticCamera$Setup" "step") ∈ lw_all := lw_g (lw_at lw_m3 229 rfl) rfl
theorem q846 : (Jvm.Cond.lays "AcousticCamera$Setup" "AcousticCamera$Setup" "samples" "I") ∈ lw_all := lw_g (lw_at lw_m3 230 rfl) rfl
theorem q847 : (Jvm.Cond.soleField "AcousticCamera$Setup" "samples") ∈ lw_all := lw_g (lw_at lw_m3 231 rfl) rfl
theorem q848 : (Jvm.Cond.lays "AcousticCamera$Setup" "AcousticCamera$Setup" "limit" "I") ∈ lw_all := lw_g (lw_at lw_m3 232 rfl) rfl
theorem q849 : (Jvm.Cond.soleField "AcousticCamera$Setup" "limit") ∈ lw_all := lw_g (lw_at lw_m3 233 rfl) rfl
theorem q850 : (Jvm.Cond.lays "AcousticCamera$Setup" "AcousticCamera$Setup" "fade" "I") ∈ lw_all := lw_g (lw_at lw_m3 234 rfl) rfl
theorem q851 : (Jvm.Cond.soleField "AcousticCamera$Setup" "fade") ∈ lw_all := lw_g (lw_at lw_m3 235 rfl) rfl
theorem q852 : (Jvm.Cond.lays "AcousticCamera$Setup" "AcousticCamera$Setup" "x" "I") ∈ lw_all := lw_g (lw_at lw_m3 236 rfl) rfl
theorem q853 : (Jvm.Cond.soleField "AcousticCamera$Setup" "x") ∈ lw_all := lw_g (lw_at lw_m3 237 rfl) rfl
theorem q854 : (Jvm.Cond.lays "AcousticCamera$Setup" "AcousticCamera$Setup" "y" "I") ∈ lw_all := lw_g (lw_at lw_m3 238 rfl) rfl
theorem q855 : (Jvm.Cond.soleField "AcousticCamera$Setup" "y") ∈ lw_all := lw_g (lw_at lw_m3 239 rfl) rfl
theorem q856 : (Jvm.Cond.lays "AcousticCamera$Setup" "AcousticCamera$Setup" "cell" "I") ∈ lw_all := lw_g (lw_at lw_m4 0 rfl) rfl
theorem q857 : (Jvm.Cond.soleField "AcousticCamera$Setup" "cell") ∈ lw_all := lw_g (lw_at lw_m4 1 rfl) rfl
theorem q858 : (Jvm.Cond.lays "AcousticCamera$Setup" "AcousticCamera$Setup" "columns" "I") ∈ lw_all := lw_g (lw_at lw_m4 2 rfl) rfl
theorem q859 : (Jvm.Cond.soleField "AcousticCamera$Setup" "columns") ∈ lw_all := lw_g (lw_at lw_m4 3 rfl) rfl
theorem q860 : (Jvm.Cond.lays "AcousticCamera$Setup" "AcousticCamera$Setup" "rows" "I") ∈ lw_all := lw_g (lw_at lw_m4 4 rfl) rfl
theorem q861 : (Jvm.Cond.soleField "AcousticCamera$Setup" "rows") ∈ lw_all := lw_g (lw_at lw_m4 5 rfl) rfl
theorem q862 : (Jvm.Cond.lays "AcousticCamera$Setup" "AcousticCamera$Setup" "delays" "[[I") ∈ lw_all := lw_g (lw_at lw_m4 6 rfl) rfl
theorem q863 : (Jvm.Cond.soleField "AcousticCamera$Setup" "delays") ∈ lw_all := lw_g (lw_at lw_m4 7 rfl) rfl
theorem q864 : (Jvm.Cond.superclass "AcousticCamera$Setup" "java/lang/Object") ∈ lw_all := lw_g (lw_at lw_m4 8 rfl) rfl
theorem q1096 : (Jvm.Cond.fieldLinkNest "AcousticCamera$Setup" (75 : Nat) "AcousticCamera$Mic" "x" "I" "AcousticCamera") ∈ lw_tbl := lw_at lw_m5 0 rfl
theorem q1099 : (Jvm.Cond.fieldLinkNest "AcousticCamera$Setup" (76 : Nat) "AcousticCamera$Mic" "y" "I" "AcousticCamera") ∈ lw_tbl := lw_at lw_m5 3 rfl
theorem q1145 : (Jvm.Cond.selects "AcousticCamera$Setup" ({ cls := "java/lang/Object", name := "getClass", desc := "()Ljava/lang/Class;" } : Jvm.MethodName) ({ cls := "java/lang/Object", name := "getClass", desc := "()Ljava/lang/Class;" } : Jvm.MethodName)) ∈ lw_all := lw_g (lw_at lw_m5 49 rfl) rfl
theorem q1216 : (Jvm.Cond.instanceMethod ({ cls := "AcousticCamera$Setup", name := "cells", desc := "()I" } : Jvm.MethodName)) ∈ lw_all := lw_g (lw_at lw_m5 120 rfl) rfl
theorem q1217 : (Jvm.Cond.selects "AcousticCamera$Setup" ({ cls := "AcousticCamera$Setup", name := "cells", desc := "()I" } : Jvm.MethodName) ({ cls := "AcousticCamera$Setup", name := "cells", desc := "()I" } : Jvm.MethodName)) ∈ lw_all := lw_g (lw_at lw_m5 121 rfl) rfl
theorem q1218 : (Jvm.Cond.code ({ cls := "AcousticCamera$Setup", name := "cells", desc := "()I" } : Jvm.MethodName) prog_7_method_2_code (1 : Nat) (Option.some Jvm.ClassFile.FieldType.int)) ∈ lw_all := lw_g (lw_at lw_m5 122 rfl) rfl
theorem q1308 : (Jvm.Cond.selects "AcousticCamera$Setup" ({ cls := "java/lang/Object", name := "equals", desc := "(Ljava/lang/Object;)Z" } : Jvm.MethodName) ({ cls := "java/lang/Object", name := "equals", desc := "(Ljava/lang/Object;)Z" } : Jvm.MethodName)) ∈ lw_all := lw_g (lw_at lw_m5 212 rfl) rfl
theorem q1553 : (Jvm.Cond.instanceMethod ({ cls := "AcousticCamera$Setup", name := "lay", desc := "()V" } : Jvm.MethodName)) ∈ lw_all := lw_g (lw_at lw_m6 217 rfl) rfl
theorem q1554 : (Jvm.Cond.selects "AcousticCamera$Setup" ({ cls := "AcousticCamera$Setup", name := "lay", desc := "()V" } : Jvm.MethodName) ({ cls := "AcousticCamera$Setup", name := "lay", desc := "()V" } : Jvm.MethodName)) ∈ lw_all := lw_g (lw_at lw_m6 218 rfl) rfl
theorem q1555 : (Jvm.Cond.code ({ cls := "AcousticCamera$Setup", name := "lay", desc := "()V" } : Jvm.MethodName) prog_7_method_6_code (3 : Nat) (Option.none : Option Jvm.ClassFile.FieldType)) ∈ lw_all := lw_g (lw_at lw_m6 219 rfl) rfl
theorem q1556 : (Jvm.Cond.interfaceEntry "AcousticCamera$Setup" (87 : Nat)) ∈ lw_tbl := lw_at lw_m6 220 rfl
theorem q1557 : (Jvm.Cond.methodLink "AcousticCamera$Setup" (87 : Nat) ({ cls := "java/util/List", name := "size", desc := "()I" } : Jvm.MethodName)) ∈ lw_all := lw_g (lw_at lw_m6 221 rfl) rfl
theorem q1558 : (Jvm.Cond.methodLink "AcousticCamera$Setup" (91 : Nat) ({ cls := "AcousticCamera$Setup", name := "cells", desc := "()I" } : Jvm.MethodName)) ∈ lw_all := lw_g (lw_at lw_m6 222 rfl) rfl
theorem q1559 : (Jvm.Cond.methodLink "AcousticCamera$Setup" (94 : Nat) ({ cls := "AcousticCamera$Setup", name := "xOf", desc := "(I)I" } : Jvm.MethodName)) ∈ lw_all := lw_g (lw_at lw_m6 223 rfl) rfl
theorem q1560 : (Jvm.Cond.instanceMethod ({ cls := "AcousticCamera$Setup", name := "xOf", desc := "(I)I" } : Jvm.MethodName)) ∈ lw_all := lw_g (lw_at lw_m6 224 rfl) rfl
theorem q1561 : (Jvm.Cond.selects "AcousticCamera$Setup" ({ cls := "AcousticCamera$Setup", name := "xOf", desc := "(I)I" } : Jvm.MethodName) ({ cls := "AcousticCamera$Setup", name := "xOf", desc := "(I)I" } : Jvm.MethodName)) ∈ lw_all := lw_g (lw_at lw_m6 225 rfl) rfl
theorem q1562 : (Jvm.Cond.code ({ cls := "AcousticCamera$Setup", name := "xOf", desc := "(I)I" } : Jvm.MethodName) prog_7_method_3_code (2 : Nat) (Option.some Jvm.ClassFile.FieldType.int)) ∈ lw_all := lw_g (lw_at lw_m6 226 rfl) rfl
theorem q1563 : (Jvm.Cond.methodLink "AcousticCamera$Setup" (98 : Nat) ({ cls := "AcousticCamera$Setup", name := "yOf", desc := "(I)I" } : Jvm.MethodName)) ∈ lw_all := lw_g (lw_at lw_m6 227 rfl) rfl
theorem q1564 : (Jvm.Cond.instanceMethod ({ cls := "AcousticCamera$Setup", name := "yOf", desc := "(I)I" } : Jvm.MethodName)) ∈ lw_all := lw_g (lw_at lw_m6 228 rfl) rfl
theorem q1565 : (Jvm.Cond.selects "AcousticCamera$Setup" ({ cls := "AcousticCamera$Setup", name := "yOf", desc := "(I)I" } : Jvm.MethodName) ({ cls := "AcousticCamera$Setup", name := "yOf", desc := "(I)I" } : Jvm.MethodName)) ∈ lw_all := lw_g (lw_at lw_m6 229 rfl) rfl
theorem q1566 : (Jvm.Cond.code ({ cls := "AcousticCamera$Setup", name := "yOf", desc := "(I)I" } : Jvm.MethodName) prog_7_method_4_code (2 : Nat) (Option.some Jvm.ClassFile.FieldType.int)) ∈ lw_all := lw_g (lw_at lw_m6 230 rfl) rfl
theorem q1567 : (Jvm.Cond.methodLink "AcousticCamera$Setup" (101 : Nat) ({ cls := "AcousticCamera$Setup", name := "delay", desc := "(III)I" } : Jvm.MethodName)) ∈ lw_all := lw_g (lw_at lw_m6 231 rfl) rfl
theorem q1568 : (Jvm.Cond.instanceMethod ({ cls := "AcousticCamera$Setup", name := "delay", desc := "(III)I" } : Jvm.MethodName)) ∈ lw_all := lw_g (lw_at lw_m6 232 rfl) rfl
theorem q1569 : (Jvm.Cond.selects "AcousticCamera$Setup" ({ cls := "AcousticCamera$Setup", name := "delay", desc := "(III)I" } : Jvm.MethodName) ({ cls := "AcousticCamera$Setup", name := "delay", desc := "(III)I" } : Jvm.MethodName)) ∈ lw_all := lw_g (lw_at lw_m6 233 rfl) rfl
theorem q1570 : (Jvm.Cond.code ({ cls := "AcousticCamera$Setup", name := "delay", desc := "(III)I" } : Jvm.MethodName) prog_7_method_5_code (8 : Nat) (Option.some Jvm.ClassFile.FieldType.int)) ∈ lw_all := lw_g (lw_at lw_m6 234 rfl) rfl
theorem q1571 : (Jvm.Cond.interfaceEntry "AcousticCamera$Setup" (67 : Nat)) ∈ lw_tbl := lw_at lw_m6 235 rfl
theorem q1572 : (Jvm.Cond.methodLink "AcousticCamera$Setup" (67 : Nat) ({ cls := "java/util/List", name := "get", desc := "(I)Ljava/lang/Object;" } : Jvm.MethodName)) ∈ lw_all := lw_g (lw_at lw_m6 236 rfl) rfl
theorem q1648 : (Jvm.Cond.classLink "AcousticCamera$Setup" (73 : Nat) "AcousticCamera$Mic") ∈ lw_all := lw_g (lw_at lw_m7 72 rfl) rfl
theorem q1649 : (Jvm.Cond.methodLinkNest "AcousticCamera$Setup" (80 : Nat) ({ cls := "AcousticCamera", name := "root", desc := "(J)I" } : Jvm.MethodName) "AcousticCamera") ∈ lw_tbl := lw_at lw_m7 73 rfl
theorem q3671 : (Jvm.Cond.castable "AcousticCamera$Setup" "java/lang/Object") ∈ lw_tbl := lw_at lw_m15 175 rfl
theorem q165 : (Jvm.Cond.initialized "AcousticCamera$Flaw") ∈ lw_all := lw_g (lw_at lw_m1 29 rfl) rfl
theorem q385 : (Jvm.Cond.selects "AcousticCamera$Flaw" ({ cls := "java/lang/Throwable", name := "fillInStackTrace", desc := "()Ljava/lang/Throwable;" } : Jvm.MethodName) ({ cls := "java/lang/Throwable", name := "fillInStackTrace", desc := "()Ljava/lang/Throwable;" } : Jvm.MethodName)) ∈ lw_all := lw_g (lw_at lw_m2 9 rfl) rfl
theorem q961 : (Jvm.Cond.instantiable "AcousticCamera$Flaw" (8 : Nat)) ∈ lw_all := lw_g (lw_at lw_m4 105 rfl) rfl
theorem q962 : (Jvm.Cond.castable "AcousticCamera$Flaw" "AcousticCamera$Flaw") ∈ lw_tbl := lw_at lw_m4 106 rfl
theorem q963 : (Jvm.Cond.selects "AcousticCamera$Flaw" ({ cls := "java/lang/Throwable", name := "fillInStackTrace", desc := "(I)Ljava/lang/Throwable;" } : Jvm.MethodName) ({ cls := "java/lang/Throwable", name := "fillInStackTrace", desc := "(I)Ljava/lang/Throwable;" } : Jvm.MethodName)) ∈ lw_all := lw_g (lw_at lw_m4 107 rfl) rfl
theorem q964 : (Jvm.Cond.lays "AcousticCamera$Flaw" "java/lang/Throwable" "cause" "Ljava/lang/Throwable;") ∈ lw_all := lw_g (lw_at lw_m4 108 rfl) rfl
theorem q965 : (Jvm.Cond.lays "AcousticCamera$Flaw" "java/lang/Throwable" "stackTrace" "[Ljava/lang/StackTraceElement;") ∈ lw_all := lw_g (lw_at lw_m4 109 rfl) rfl
theorem q966 : (Jvm.Cond.lays "AcousticCamera$Flaw" "java/lang/Throwable" "suppressedExceptions" "Ljava/util/List;") ∈ lw_all := lw_g (lw_at lw_m4 110 rfl) rfl
theorem q967 : (Jvm.Cond.lays "AcousticCamera$Flaw" "java/lang/Throwable" "detailMessage" "Ljava/lang/String;") ∈ lw_all := lw_g (lw_at lw_m4 111 rfl) rfl
theorem q968 : (Jvm.Cond.lays "AcousticCamera$Flaw" "java/lang/Throwable" "backtrace" "Ljava/lang/Object;") ∈ lw_all := lw_g (lw_at lw_m4 112 rfl) rfl
theorem q970 : (Jvm.Cond.instanceMethod ({ cls := "AcousticCamera$Flaw", name := "<init>", desc := "(II)V" } : Jvm.MethodName)) ∈ lw_all := lw_g (lw_at lw_m4 114 rfl) rfl
theorem q971 : (Jvm.Cond.code ({ cls := "AcousticCamera$Flaw", name := "<init>", desc := "(II)V" } : Jvm.MethodName) prog_3_method_1_code (3 : Nat) (Option.none : Option Jvm.ClassFile.FieldType)) ∈ lw_all := lw_g (lw_at lw_m4 115 rfl) rfl
theorem q972 : (Jvm.Cond.methodLink "AcousticCamera$Flaw" (1 : Nat) ({ cls := "java/lang/Exception", name := "<init>", desc := "(Ljava/lang/String;Ljava/lang/Throwable;ZZ)V" } : Jvm.MethodName)) ∈ lw_all := lw_g (lw_at lw_m4 116 rfl) rfl
theorem q978 : (Jvm.Cond.fieldLink "AcousticCamera$Flaw" (7 : Nat) "AcousticCamera$Flaw" "code" "I") ∈ lw_all := lw_g (lw_at lw_m4 122 rfl) rfl
theorem q980 : (Jvm.Cond.fieldLink "AcousticCamera$Flaw" (13 : Nat) "AcousticCamera$Flaw" "position" "I") ∈ lw_all := lw_g (lw_at lw_m4 124 rfl) rfl
theorem q982 : (Jvm.Cond.laysFinal "AcousticCamera$Flaw" "AcousticCamera$Flaw" "code" "I") ∈ lw_all := lw_g (lw_at lw_m4 126 rfl) rfl
theorem q983 : (Jvm.Cond.soleField "AcousticCamera$Flaw" "code") ∈ lw_all := lw_g (lw_at lw_m4 127 rfl) rfl
theorem q984 : (Jvm.Cond.laysFinal "AcousticCamera$Flaw" "AcousticCamera$Flaw" "position" "I") ∈ lw_all := lw_g (lw_at lw_m4 128 rfl) rfl
theorem q985 : (Jvm.Cond.soleField "AcousticCamera$Flaw" "position") ∈ lw_all := lw_g (lw_at lw_m4 129 rfl) rfl
theorem q986 : (Jvm.Cond.lays "AcousticCamera$Flaw" "java/lang/Throwable" "depth" "I") ∈ lw_all := lw_g (lw_at lw_m4 130 rfl) rfl
theorem q987 : (Jvm.Cond.superclass "AcousticCamera$Flaw" "java/lang/Exception") ∈ lw_all := lw_g (lw_at lw_m4 131 rfl) rfl
theorem q1142 : (Jvm.Cond.selects "AcousticCamera$Flaw" ({ cls := "java/lang/Object", name := "getClass", desc := "()Ljava/lang/Class;" } : Jvm.MethodName) ({ cls := "java/lang/Object", name := "getClass", desc := "()Ljava/lang/Class;" } : Jvm.MethodName)) ∈ lw_all := lw_g (lw_at lw_m5 46 rfl) rfl
theorem q1305 : (Jvm.Cond.selects "AcousticCamera$Flaw" ({ cls := "java/lang/Object", name := "equals", desc := "(Ljava/lang/Object;)Z" } : Jvm.MethodName) ({ cls := "java/lang/Object", name := "equals", desc := "(Ljava/lang/Object;)Z" } : Jvm.MethodName)) ∈ lw_all := lw_g (lw_at lw_m5 209 rfl) rfl
theorem q2242 : (Jvm.Cond.selects "AcousticCamera$Flaw" ({ cls := "java/lang/Throwable", name := "toString", desc := "()Ljava/lang/String;" } : Jvm.MethodName) ({ cls := "java/lang/Throwable", name := "toString", desc := "()Ljava/lang/String;" } : Jvm.MethodName)) ∈ lw_all := lw_g (lw_at lw_m9 186 rfl) rfl
theorem q2254 : (Jvm.Cond.selects "AcousticCamera$Flaw" ({ cls := "java/lang/Throwable", name := "getLocalizedMessage", desc := "()Ljava/lang/String;" } : Jvm.MethodName) ({ cls := "java/lang/Throwable", name := "getLocalizedMessage", desc := "()Ljava/lang/String;" } : Jvm.MethodName)) ∈ lw_all := lw_g (lw_at lw_m9 198 rfl) rfl
theorem q2265 : (Jvm.Cond.selects "AcousticCamera$Flaw" ({ cls := "java/lang/Throwable", name := "getMessage", desc := "()Ljava/lang/String;" } : Jvm.MethodName) ({ cls := "java/lang/Throwable", name := "getMessage", desc := "()Ljava/lang/String;" } : Jvm.MethodName)) ∈ lw_all := lw_g (lw_at lw_m9 209 rfl) rfl
theorem q3676 : (Jvm.Cond.castable "AcousticCamera$Flaw" "java/lang/Object") ∈ lw_tbl := lw_at lw_m15 180 rfl
theorem q167 : (Jvm.Cond.initialized "AcousticCamera$Mic") ∈ lw_all := lw_g (lw_at lw_m1 31 rfl) rfl
theorem q1090 : (Jvm.Cond.instantiable "AcousticCamera$Mic" (3 : Nat)) ∈ lw_all := lw_g (lw_at lw_m4 234 rfl) rfl
theorem q1092 : (Jvm.Cond.instanceMethod ({ cls := "AcousticCamera$Mic", name := "<init>", desc := "(III)V" } : Jvm.MethodName)) ∈ lw_all := lw_g (lw_at lw_m4 236 rfl) rfl
theorem q1093 : (Jvm.Cond.code ({ cls := "AcousticCamera$Mic", name := "<init>", desc := "(III)V" } : Jvm.MethodName) prog_4_method_1_code (4 : Nat) (Option.none : Option Jvm.ClassFile.FieldType)) ∈ lw_all := lw_g (lw_at lw_m4 237 rfl) rfl
theorem q1094 : (Jvm.Cond.methodLink "AcousticCamera$Mic" (1 : Nat) ({ cls := "java/lang/Object", name := "<init>", desc := "()V" } : Jvm.MethodName)) ∈ lw_all := lw_g (lw_at lw_m4 238 rfl) rfl
theorem q1095 : (Jvm.Cond.fieldLink "AcousticCamera$Mic" (7 : Nat) "AcousticCamera$Mic" "x" "I") ∈ lw_all := lw_g (lw_at lw_m4 239 rfl) rfl
theorem q1098 : (Jvm.Cond.fieldLink "AcousticCamera$Mic" (13 : Nat) "AcousticCamera$Mic" "y" "I") ∈ lw_all := lw_g (lw_at lw_m5 2 rfl) rfl
theorem q1101 : (Jvm.Cond.fieldLink "AcousticCamera$Mic" (16 : Nat) "AcousticCamera$Mic" "gain" "I") ∈ lw_all := lw_g (lw_at lw_m5 5 rfl) rfl
theorem q1104 : (Jvm.Cond.laysFinal "AcousticCamera$Mic" "AcousticCamera$Mic" "x" "I") ∈ lw_all := lw_g (lw_at lw_m5 8 rfl) rfl
theorem q1105 : (Jvm.Cond.soleField "AcousticCamera$Mic" "x") ∈ lw_all := lw_g (lw_at lw_m5 9 rfl) rfl
theorem q1106 : (Jvm.Cond.laysFinal "AcousticCamera$Mic" "AcousticCamera$Mic" "y" "I") ∈ lw_all := lw_g (lw_at lw_m5 10 rfl) rfl
theorem q1107 : (Jvm.Cond.soleField "AcousticCamera$Mic" "y") ∈ lw_all := lw_g (lw_at lw_m5 11 rfl) rfl
theorem q1108 : (Jvm.Cond.laysFinal "AcousticCamera$Mic" "AcousticCamera$Mic" "gain" "I") ∈ lw_all := lw_g (lw_at lw_m5 12 rfl) rfl
theorem q1109 : (Jvm.Cond.soleField "AcousticCamera$Mic" "gain") ∈ lw_all := lw_g (lw_at lw_m5 13 rfl) rfl
theorem q1110 : (Jvm.Cond.superclass "AcousticCamera$Mic" "java/lang/Object") ∈ lw_all := lw_g (lw_at lw_m5 14 rfl) rfl
theorem q1143 : (Jvm.Cond.selects "AcousticCamera$Mic" ({ cls := "java/lang/Object", name := "getClass", desc := "()Ljava/lang/Class;" } : Jvm.MethodName) ({ cls := "java/lang/Object", name := "getClass", desc := "()Ljava/lang/Class;" } : Jvm.MethodName)) ∈ lw_all := lw_g (lw_at lw_m5 47 rfl) rfl
theorem q1306 : (Jvm.Cond.selects "AcousticCamera$Mic" ({ cls := "java/lang/Object", name := "equals", desc := "(Ljava/lang/Object;)Z" } : Jvm.MethodName) ({ cls := "java/lang/Object", name := "equals", desc := "(Ljava/lang/Object;)Z" } : Jvm.MethodName)) ∈ lw_all := lw_g (lw_at lw_m5 210 rfl) rfl
theorem q3678 : (Jvm.Cond.castable "AcousticCamera$Mic" "java/lang/Object") ∈ lw_tbl := lw_at lw_m15 182 rfl
theorem q175 : (Jvm.Cond.initialized "AcousticCamera$Source") ∈ lw_all := lw_g (lw_at lw_m1 39 rfl) rfl
theorem q1146 : (Jvm.Cond.selects "AcousticCamera$Source" ({ cls := "java/lang/Object", name := "getClass", desc := "()Ljava/lang/Class;" } : Jvm.MethodName) ({ cls := "java/lang/Object", name := "getClass", desc := "()Ljava/lang/Class;" } : Jvm.MethodName)) ∈ lw_all := lw_g (lw_at lw_m5 50 rfl) rfl
theorem q1309 : (Jvm.Cond.selects "AcousticCamera$Source" ({ cls := "java/lang/Object", name := "equals", desc := "(Ljava/lang/Object;)Z" } : Jvm.MethodName) ({ cls := "java/lang/Object", name := "equals", desc := "(Ljava/lang/Object;)Z" } : Jvm.MethodName)) ∈ lw_all := lw_g (lw_at lw_m5 213 rfl) rfl
theorem q1363 : (Jvm.Cond.instantiable "AcousticCamera$Source" (6 : Nat)) ∈ lw_all := lw_g (lw_at lw_m6 27 rfl) rfl
theorem q1394 : (Jvm.Cond.instanceMethod ({ cls := "AcousticCamera$Source", name := "<init>", desc := "(LAcousticCamera$Wave;IIIII)V" } : Jvm.MethodName)) ∈ lw_all := lw_g (lw_at lw_m6 58 rfl) rfl
theorem q1395 : (Jvm.Cond.code ({ cls := "AcousticCamera$Source", name := "<init>", desc := "(LAcousticCamera$Wave;IIIII)V" } : Jvm.MethodName) prog_8_method_1_code (7 : Nat) (Option.none : Option Jvm.ClassFile.FieldType)) ∈ lw_all := lw_g (lw_at lw_m6 59 rfl) rfl
theorem q1396 : (Jvm.Cond.methodLink "AcousticCamera$Source" (3 : Nat) ({ cls := "java/lang/Object", name := "<init>", desc := "()V" } : Jvm.MethodName)) ∈ lw_all := lw_g (lw_at lw_m6 60 rfl) rfl
theorem q1397 : (Jvm.Cond.fieldLink "AcousticCamera$Source" (9 : Nat) "AcousticCamera$Source" "wave" "LAcousticCamera$Wave;") ∈ lw_all := lw_g (lw_at lw_m6 61 rfl) rfl
theorem q1399 : (Jvm.Cond.fieldLink "AcousticCamera$Source" (15 : Nat) "AcousticCamera$Source" "from" "I") ∈ lw_all := lw_g (lw_at lw_m6 63 rfl) rfl
theorem q1401 : (Jvm.Cond.fieldLink "AcousticCamera$Source" (19 : Nat) "AcousticCamera$Source" "x" "I") ∈ lw_all := lw_g (lw_at lw_m6 65 rfl) rfl
theorem q1403 : (Jvm.Cond.fieldLink "AcousticCamera$Source" (22 : Nat) "AcousticCamera$Source" "y" "I") ∈ lw_all := lw_g (lw_at lw_m6 67 rfl) rfl
theorem q1405 : (Jvm.Cond.fieldLink "AcousticCamera$Source" (25 : Nat) "AcousticCamera$Source" "vx" "I") ∈ lw_all := lw_g (lw_at lw_m6 69 rfl) rfl
theorem q1407 : (Jvm.Cond.fieldLink "AcousticCamera$Source" (28 : Nat) "AcousticCamera$Source" "vy" "I") ∈ lw_all := lw_g (lw_at lw_m6 71 rfl) rfl
theorem q1409 : (Jvm.Cond.laysFinal "AcousticCamera$Source" "AcousticCamera$Source" "wave" "LAcousticCamera$Wave;") ∈ lw_all := lw_g (lw_at lw_m6 73 rfl) rfl
theorem q1410 : (Jvm.Cond.soleField "AcousticCamera$Source" "wave") ∈ lw_all := lw_g (lw_at lw_m6 74 rfl) rfl
theorem q1411 : (Jvm.Cond.laysFinal "AcousticCamera$Source" "AcousticCamera$Source" "from" "I") ∈ lw_all := lw_g (lw_at lw_m6 75 rfl) rfl
theorem q1412 : (Jvm.Cond.soleField "AcousticCamera$Source" "from") ∈ lw_all := lw_g (lw_at lw_m6 76 rfl) rfl
theorem q1413 : (Jvm.Cond.laysFinal "AcousticCamera$Source" "AcousticCamera$Source" "x" "I") ∈ lw_all := lw_g (lw_at lw_m6 77 rfl) rfl
theorem q1414 : (Jvm.Cond.soleField "AcousticCamera$Source" "x") ∈ lw_all := lw_g (lw_at lw_m6 78 rfl) rfl
theorem q1415 : (Jvm.Cond.laysFinal "AcousticCamera$Source" "AcousticCamera$Source" "y" "I") ∈ lw_all := lw_g (lw_at lw_m6 79 rfl) rfl
theorem q1416 : (Jvm.Cond.soleField "AcousticCamera$Source" "y") ∈ lw_all := lw_g (lw_at lw_m6 80 rfl) rfl
theorem q1417 : (Jvm.Cond.laysFinal "AcousticCamera$Source" "AcousticCamera$Source" "vx" "I") ∈ lw_all := lw_g (lw_at lw_m6 81 rfl) rfl
theorem q1418 : (Jvm.Cond.soleField "AcousticCamera$Source" "vx") ∈ lw_all := lw_g (lw_at lw_m6 82 rfl) rfl
theorem q1419 : (Jvm.Cond.laysFinal "AcousticCamera$Source" "AcousticCamera$Source" "vy" "I") ∈ lw_all := lw_g (lw_at lw_m6 83 rfl) rfl
theorem q1420 : (Jvm.Cond.soleField "AcousticCamera$Source" "vy") ∈ lw_all := lw_g (lw_at lw_m6 84 rfl) rfl
theorem q1421 : (Jvm.Cond.superclass "AcousticCamera$Source" "java/lang/Object") ∈ lw_all := lw_g (lw_at lw_m6 85 rfl) rfl
theorem q1744 : (Jvm.Cond.instanceMethod ({ cls := "AcousticCamera$Source", name := "xAt", desc := "(I)I" } : Jvm.MethodName)) ∈ lw_all := lw_g (lw_at lw_m7 168 rfl) rfl
theorem q1745 : (Jvm.Cond.selects "AcousticCamera$Source" ({ cls := "AcousticCamera$Source", name := "xAt", desc := "(I)I" } : Jvm.MethodName) ({ cls := "AcousticCamera$Source", name := "xAt", desc := "(I)I" } : Jvm.MethodName)) ∈ lw_all := lw_g (lw_at lw_m7 169 rfl) rfl
theorem q1746 : (Jvm.Cond.code ({ cls := "AcousticCamera$Source", name := "xAt", desc := "(I)I" } : Jvm.MethodName) prog_8_method_2_code (2 : Nat) (Option.some Jvm.ClassFile.FieldType.int)) ∈ lw_all := lw_g (lw_at lw_m7 170 rfl) rfl
theorem q1748 : (Jvm.Cond.instanceMethod ({ cls := "AcousticCamera$Source", name := "yAt", desc := "(I)I" } : Jvm.MethodName)) ∈ lw_all := lw_g (lw_at lw_m7 172 rfl) rfl
theorem q1749 : (Jvm.Cond.selects "AcousticCamera$Source" ({ cls := "AcousticCamera$Source", name := "yAt", desc := "(I)I" } : Jvm.MethodName) ({ cls := "AcousticCamera$Source", name := "yAt", desc := "(I)I" } : Jvm.MethodName)) ∈ lw_all := lw_g (lw_at lw_m7 173 rfl) rfl
theorem q1750 : (Jvm.Cond.code ({ cls := "AcousticCamera$Source", name := "yAt", desc := "(I)I" } : Jvm.MethodName) prog_8_method_3_code (2 : Nat) (Option.some Jvm.ClassFile.FieldType.int)) ∈ lw_all := lw_g (lw_at lw_m7 174 rfl) rfl
theorem q1757 : (Jvm.Cond.instanceMethod ({ cls := "AcousticCamera$Source", name := "at", desc := "(I)I" } : Jvm.MethodName)) ∈ lw_all := lw_g (lw_at lw_m7 181 rfl) rfl
theorem q1758 : (Jvm.Cond.selects "AcousticCamera$Source" ({ cls := "AcousticCamera$Source", name := "at", desc := "(I)I" } : Jvm.MethodName) ({ cls := "AcousticCamera$Source", name := "at", desc := "(I)I" } : Jvm.MethodName)) ∈ lw_all := lw_g (lw_at lw_m7 182 rfl) rfl
theorem q1759 : (Jvm.Cond.code ({ cls := "AcousticCamera$Source", name := "at", desc := "(I)I" } : Jvm.MethodName) prog_8_method_4_code (2 : Nat) (Option.some Jvm.ClassFile.FieldType.int)) ∈ lw_all := lw_g (lw_at lw_m7 183 rfl) rfl
theorem q1760 : (Jvm.Cond.interfaceEntry "AcousticCamera$Source" (31 : Nat)) ∈ lw_tbl := lw_at lw_m7 184 rfl
theorem q1761 : (Jvm.Cond.methodLink "AcousticCamera$Source" (31 : Nat) ({ cls := "AcousticCamera$Wave", name := "at", desc := "(I)I" } : Jvm.MethodName)) ∈ lw_all := lw_g (lw_at lw_m7 185 rfl) rfl
theorem q3663 : (Jvm.Cond.castable "AcousticCamera$Source" "java/lang/Object") ∈ lw_tbl := lw_at lw_m15 167 rfl
theorem q176 : (Jvm.Cond.initialized "AcousticCamera$Waves") ∈ lw_all := lw_g (lw_at lw_m1 40 rfl) rfl
theorem q1368 : (Jvm.Cond.static ({ cls := "AcousticCamera$Waves", name := "square", desc := "(III)LAcousticCamera$Wave;" } : Jvm.MethodName)) ∈ lw_all := lw_g (lw_at lw_m6 32 rfl) rfl
theorem q1369 : (Jvm.Cond.code ({ cls := "AcousticCamera$Waves", name := "square", desc := "(III)LAcousticCamera$Wave;" } : Jvm.MethodName) prog_12_method_2_code (3 : Nat) (Option.some (Jvm.ClassFile.FieldType.object "AcousticCamera$Wave"))) ∈ lw_all := lw_g (lw_at lw_m6 33 rfl) rfl
theorem q1370 : (Jvm.Cond.static ({ cls := "AcousticCamera$Waves", name := "lambda$square$0", desc := "(IIII)I" } : Jvm.MethodName)) ∈ lw_all := lw_g (lw_at lw_m6 34 rfl) rfl
theorem q1371 : (Jvm.Cond.code ({ cls := "AcousticCamera$Waves", name := "lambda$square$0", desc := "(IIII)I" } : Jvm.MethodName) prog_12_method_9_code (4 : Nat) (Option.some Jvm.ClassFile.FieldType.int)) ∈ lw_all := lw_g (lw_at lw_m6 35 rfl) rfl
theorem q1373 : (Jvm.Cond.static ({ cls := "AcousticCamera$Waves", name := "triangle", desc := "(III)LAcousticCamera$Wave;" } : Jvm.MethodName)) ∈ lw_all := lw_g (lw_at lw_m6 37 rfl) rfl
theorem q1374 : (Jvm.Cond.code ({ cls := "AcousticCamera$Waves", name := "triangle", desc := "(III)LAcousticCamera$Wave;" } : Jvm.MethodName) prog_12_method_3_code (3 : Nat) (Option.some (Jvm.ClassFile.FieldType.object "AcousticCamera$Wave"))) ∈ lw_all := lw_g (lw_at lw_m6 38 rfl) rfl
theorem q1375 : (Jvm.Cond.static ({ cls := "AcousticCamera$Waves", name := "lambda$triangle$1", desc := "(IIII)I" } : Jvm.MethodName)) ∈ lw_all := lw_g (lw_at lw_m6 39 rfl) rfl
theorem q1376 : (Jvm.Cond.code ({ cls := "AcousticCamera$Waves", name := "lambda$triangle$1", desc := "(IIII)I" } : Jvm.MethodName) prog_12_method_8_code (5 : Nat) (Option.some Jvm.ClassFile.FieldType.int)) ∈ lw_all := lw_g (lw_at lw_m6 40 rfl) rfl
theorem q1377 : (Jvm.Cond.methodLink "AcousticCamera$Waves" (22 : Nat) ({ cls := "java/lang/Math", name := "abs", desc := "(I)I" } : Jvm.MethodName)) ∈ lw_all := lw_g (lw_at lw_m6 41 rfl) rfl
theorem q1381 : (Jvm.Cond.static ({ cls := "AcousticCamera$Waves", name := "pulse", desc := "(III)LAcousticCamera$Wave;" } : Jvm.MethodName)) ∈ lw_all := lw_g (lw_at lw_m6 45 rfl) rfl
theorem q1382 : (Jvm.Cond.code ({ cls := "AcousticCamera$Waves", name := "pulse", desc := "(III)LAcousticCamera$Wave;" } : Jvm.MethodName) prog_12_method_4_code (3 : Nat) (Option.some (Jvm.ClassFile.FieldType.object "AcousticCamera$Wave"))) ∈ lw_all := lw_g (lw_at lw_m6 46 rfl) rfl
theorem q1383 : (Jvm.Cond.static ({ cls := "AcousticCamera$Waves", name := "lambda$pulse$2", desc := "(IIII)I" } : Jvm.MethodName)) ∈ lw_all := lw_g (lw_at lw_m6 47 rfl) rfl
theorem q1384 : (Jvm.Cond.code ({ cls := "AcousticCamera$Waves", name := "lambda$pulse$2", desc := "(IIII)I" } : Jvm.MethodName) prog_12_method_7_code (4 : Nat) (Option.some Jvm.ClassFile.FieldType.int)) ∈ lw_all := lw_g (lw_at lw_m6 48 rfl) rfl
theorem q1386 : (Jvm.Cond.static ({ cls := "AcousticCamera$Waves", name := "noise", desc := "(II)LAcousticCamera$Wave;" } : Jvm.MethodName)) ∈ lw_all := lw_g (lw_at lw_m6 50 rfl) rfl
theorem q1387 : (Jvm.Cond.code ({ cls := "AcousticCamera$Waves", name := "noise", desc := "(II)LAcousticCamera$Wave;" } : Jvm.MethodName) prog_12_method_5_code (2 : Nat) (Option.some (Jvm.ClassFile.FieldType.object "AcousticCamera$Wave"))) ∈ lw_all := lw_g (lw_at lw_m6 51 rfl) rfl
theorem q1388 : (Jvm.Cond.static ({ cls := "AcousticCamera$Waves", name := "lambda$noise$3", desc := "(III)I" } : Jvm.MethodName)) ∈ lw_all := lw_g (lw_at lw_m6 52 rfl) rfl
theorem q1389 : (Jvm.Cond.code ({ cls := "AcousticCamera$Waves", name := "lambda$noise$3", desc := "(III)I" } : Jvm.MethodName) prog_12_method_6_code (3 : Nat) (Option.some Jvm.ClassFile.FieldType.int)) ∈ lw_all := lw_g (lw_at lw_m6 53 rfl) rfl
theorem q1390 : (Jvm.Cond.constantLong "AcousticCamera$Waves" (16 : Nat) (31 : Int64)) ∈ lw_all := lw_g (lw_at lw_m6 54 rfl) rfl
theorem q1391 : (Jvm.Cond.constantLong "AcousticCamera$Waves" (18 : Nat) (7919 : Int64)) ∈ lw_all := lw_g (lw_at lw_m6 55 rfl) rfl
theorem q1392 : (Jvm.Cond.constantLong "AcousticCamera$Waves" (20 : Nat) (104729 : Int64)) ∈ lw_all := lw_g (lw_at lw_m6 56 rfl) rfl
theorem q177 : (Jvm.Cond.initialized "AcousticCamera$Wall") ∈ lw_all := lw_g (lw_at lw_m1 41 rfl) rfl
theorem q1148 : (Jvm.Cond.selects "AcousticCamera$Wall" ({ cls := "java/lang/Object", name := "getClass", desc := "()Ljava/lang/Class;" } : Jvm.MethodName) ({ cls := "java/lang/Object", name := "getClass", desc := "()Ljava/lang/Class;" } : Jvm.MethodName)) ∈ lw_all := lw_g (lw_at lw_m5 52 rfl) rfl
theorem q1311 : (Jvm.Cond.selects "AcousticCamera$Wall" ({ cls := "java/lang/Object", name := "equals", desc := "(Ljava/lang/Object;)Z" } : Jvm.MethodName) ({ cls := "java/lang/Object", name := "equals", desc := "(Ljava/lang/Object;)Z" } : Jvm.MethodName)) ∈ lw_all := lw_g (lw_at lw_m5 215 rfl) rfl
theorem q1423 : (Jvm.Cond.instantiable "AcousticCamera$Wall" (2 : Nat)) ∈ lw_all := lw_g (lw_at lw_m6 87 rfl) rfl
theorem q1425 : (Jvm.Cond.instanceMethod ({ cls := "AcousticCamera$Wall", name := "<init>", desc := "(II)V" } : Jvm.MethodName)) ∈ lw_all := lw_g (lw_at lw_m6 89 rfl) rfl
theorem q1426 : (Jvm.Cond.code ({ cls := "AcousticCamera$Wall", name := "<init>", desc := "(II)V" } : Jvm.MethodName) prog_10_method_1_code (3 : Nat) (Option.none : Option Jvm.ClassFile.FieldType)) ∈ lw_all := lw_g (lw_at lw_m6 90 rfl) rfl
theorem q1427 : (Jvm.Cond.methodLink "AcousticCamera$Wall" (1 : Nat) ({ cls := "java/lang/Object", name := "<init>", desc := "()V" } : Jvm.MethodName)) ∈ lw_all := lw_g (lw_at lw_m6 91 rfl) rfl
theorem q1428 : (Jvm.Cond.fieldLink "AcousticCamera$Wall" (7 : Nat) "AcousticCamera$Wall" "x" "I") ∈ lw_all := lw_g (lw_at lw_m6 92 rfl) rfl
theorem q1430 : (Jvm.Cond.fieldLink "AcousticCamera$Wall" (13 : Nat) "AcousticCamera$Wall" "percent" "I") ∈ lw_all := lw_g (lw_at lw_m6 94 rfl) rfl
theorem q1432 : (Jvm.Cond.laysFinal "AcousticCamera$Wall" "AcousticCamera$Wall" "x" "I") ∈ lw_all := lw_g (lw_at lw_m6 96 rfl) rfl
theorem q1433 : (Jvm.Cond.soleField "AcousticCamera$Wall" "x") ∈ lw_all := lw_g (lw_at lw_m6 97 rfl) rfl
theorem q1434 : (Jvm.Cond.laysFinal "AcousticCamera$Wall" "AcousticCamera$Wall" "percent" "I") ∈ lw_all := lw_g (lw_at lw_m6 98 rfl) rfl
theorem q1435 : (Jvm.Cond.soleField "AcousticCamera$Wall" "percent") ∈ lw_all := lw_g (lw_at lw_m6 99 rfl) rfl
theorem q1436 : (Jvm.Cond.superclass "AcousticCamera$Wall" "java/lang/Object") ∈ lw_all := lw_g (lw_at lw_m6 100 rfl) rfl
theorem q3681 : (Jvm.Cond.castable "AcousticCamera$Wall" "java/lang/Object") ∈ lw_tbl := lw_at lw_m15 185 rfl
theorem q178 : (Jvm.Cond.initialized "AcousticCamera$Zone") ∈ lw_all := lw_g (lw_at lw_m1 42 rfl) rfl
theorem q1149 : (Jvm.Cond.selects "AcousticCamera$Zone" ({ cls := "java/lang/Object", name := "getClass", desc := "()Ljava/lang/Class;" } : Jvm.MethodName) ({ cls := "java/lang/Object", name := "getClass", desc := "()Ljava/lang/Class;" } : Jvm.MethodName)) ∈ lw_all := lw_g (lw_at lw_m5 53 rfl) rfl
theorem q1312 : (Jvm.Cond.selects "AcousticCamera$Zone" ({ cls := "java/lang/Object", name := "equals", desc := "(Ljava/lang/Object;)Z" } : Jvm.MethodName) ({ cls := "java/lang/Object", name := "equals", desc := "(Ljava/lang/Object;)Z" } : Jvm.MethodName)) ∈ lw_all := lw_g (lw_at lw_m5 216 rfl) rfl
theorem q1498 : (Jvm.Cond.instantiable "AcousticCamera$Zone" (4 : Nat)) ∈ lw_all := lw_g (lw_at lw_m6 162 rfl) rfl
theorem q1500 : (Jvm.Cond.instanceMethod ({ cls := "AcousticCamera$Zone", name := "<init>", desc := "(IIII)V" } : Jvm.MethodName)) ∈ lw_all := lw_g (lw_at lw_m6 164 rfl) rfl
theorem q1501 : (Jvm.Cond.code ({ cls := "AcousticCamera$Zone", name := "<init>", desc := "(IIII)V" } : Jvm.MethodName) prog_13_method_1_code (5 : Nat) (Option.none : Option Jvm.ClassFile.FieldType)) ∈ lw_all := lw_g (lw_at lw_m6 165 rfl) rfl
theorem q1502 : (Jvm.Cond.methodLink "AcousticCamera$Zone" (1 : Nat) ({ cls := "java/lang/Object", name := "<init>", desc := "()V" } : Jvm.MethodName)) ∈ lw_all := lw_g (lw_at lw_m6 166 rfl) rfl
theorem q1503 : (Jvm.Cond.fieldLink "AcousticCamera$Zone" (7 : Nat) "AcousticCamera$Zone" "firstColumn" "I") ∈ lw_all := lw_g (lw_at lw_m6 167 rfl) rfl
theorem q1504 : (Jvm.Cond.fieldLink "AcousticCamera$Zone" (13 : Nat) "AcousticCamera$Zone" "firstRow" "I") ∈ lw_all := lw_g (lw_at lw_m6 168 rfl) rfl
theorem q1505 : (Jvm.Cond.fieldLink "AcousticCamera$Zone" (16 : Nat) "AcousticCamera$Zone" "lastColumn" "I") ∈ lw_all := lw_g (lw_at lw_m6 169 rfl) rfl
theorem q1506 : (Jvm.Cond.fieldLink "AcousticCamera$Zone" (19 : Nat) "AcousticCamera$Zone" "lastRow" "I") ∈ lw_all := lw_g (lw_at lw_m6 170 rfl) rfl
theorem q1507 : (Jvm.Cond.laysFinal "AcousticCamera$Zone" "AcousticCamera$Zone" "firstColumn" "I") ∈ lw_all := lw_g (lw_at lw_m6 171 rfl) rfl
theorem q1508 : (Jvm.Cond.soleField "AcousticCamera$Zone" "firstColumn") ∈ lw_all := lw_g (lw_at lw_m6 172 rfl) rfl
theorem q1509 : (Jvm.Cond.laysFinal "AcousticCamera$Zone" "AcousticCamera$Zone" "firstRow" "I") ∈ lw_all := lw_g (lw_at lw_m6 173 rfl) rfl
theorem q1510 : (Jvm.Cond.soleField "AcousticCamera$Zone" "firstRow") ∈ lw_all := lw_g (lw_at lw_m6 174 rfl) rfl
theorem q1511 : (Jvm.Cond.laysFinal "AcousticCamera$Zone" "AcousticCamera$Zone" "lastColumn" "I") ∈ lw_all := lw_g (lw_at lw_m6 175 rfl) rfl
theorem q1512 : (Jvm.Cond.soleField "AcousticCamera$Zone" "lastColumn") ∈ lw_all := lw_g (lw_at lw_m6 176 rfl) rfl
theorem q1513 : (Jvm.Cond.laysFinal "AcousticCamera$Zone" "AcousticCamera$Zone" "lastRow" "I") ∈ lw_all := lw_g (lw_at lw_m6 177 rfl) rfl
theorem q1514 : (Jvm.Cond.soleField "AcousticCamera$Zone" "lastRow") ∈ lw_all := lw_g (lw_at lw_m6 178 rfl) rfl
theorem q1515 : (Jvm.Cond.superclass "AcousticCamera$Zone" "java/lang/Object") ∈ lw_all := lw_g (lw_at lw_m6 179 rfl) rfl
theorem q2355 : (Jvm.Cond.instanceMethod ({ cls := "AcousticCamera$Zone", name := "has", desc := "(II)Z" } : Jvm.MethodName)) ∈ lw_all := lw_g (lw_at lw_m10 59 rfl) rfl
theorem q2356 : (Jvm.Cond.selects "AcousticCamera$Zone" ({ cls := "AcousticCamera$Zone", name := "has", desc := "(II)Z" } : Jvm.MethodName) ({ cls := "AcousticCamera$Zone", name := "has", desc := "(II)Z" } : Jvm.MethodName)) ∈ lw_all := lw_g (lw_at lw_m10 60 rfl) rfl
theorem q2357 : (Jvm.Cond.code ({ cls := "AcousticCamera$Zone", name := "has", desc := "(II)Z" } : Jvm.MethodName) prog_13_method_2_code (3 : Nat) (Option.some Jvm.ClassFile.FieldType.boolean)) ∈ lw_all := lw_g (lw_at lw_m10 61 rfl) rfl
theorem q2358 : (Jvm.Cond.methodLinkNest "AcousticCamera$Zone" (22 : Nat) ({ cls := "AcousticCamera", name := "in", desc := "(JJJ)Z" } : Jvm.MethodName) "AcousticCamera") ∈ lw_tbl := lw_at lw_m10 62 rfl
theorem q3682 : (Jvm.Cond.castable "AcousticCamera$Zone" "java/lang/Object") ∈ lw_tbl := lw_at lw_m15 186 rfl
theorem q138 : (Jvm.Cond.initialized "java/util/AbstractCollection") ∈ lw_all := lw_g (lw_at lw_m1 2 rfl) rfl
theorem q205 : (Jvm.Cond.instanceMethod ({ cls := "java/util/AbstractCollection", name := "<init>", desc := "()V" } : Jvm.MethodName)) ∈ lw_all := lw_g (lw_at lw_m1 69 rfl) rfl
theorem q206 : (Jvm.Cond.code ({ cls := "java/util/AbstractCollection", name := "<init>", desc := "()V" } : Jvm.MethodName) prog_44_method_1_code (1 : Nat) (Option.none : Option Jvm.ClassFile.FieldType)) ∈ lw_all := lw_g (lw_at lw_m1 70 rfl) rfl
theorem q207 : (Jvm.Cond.methodLink "java/util/AbstractCollection" (1 : Nat) ({ cls := "java/lang/Object", name := "<init>", desc := "()V" } : Jvm.MethodName)) ∈ lw_all := lw_g (lw_at lw_m1 71 rfl) rfl
theorem q1541 : (Jvm.Cond.instanceMethod ({ cls := "java/util/AbstractCollection", name := "isEmpty", desc := "()Z" } : Jvm.MethodName)) ∈ lw_all := lw_g (lw_at lw_m6 205 rfl) rfl
theorem q1542 : (Jvm.Cond.publicMethod ({ cls := "java/util/AbstractCollection", name := "isEmpty", desc := "()Z" } : Jvm.MethodName)) ∈ lw_tbl := lw_at lw_m6 206 rfl
theorem q1543 : (Jvm.Cond.code ({ cls := "java/util/AbstractCollection", name := "isEmpty", desc := "()Z" } : Jvm.MethodName) prog_44_method_4_code (1 : Nat) (Option.some Jvm.ClassFile.FieldType.boolean)) ∈ lw_all := lw_g (lw_at lw_m6 207 rfl) rfl
theorem q1544 : (Jvm.Cond.methodLink "java/util/AbstractCollection" (7 : Nat) ({ cls := "java/util/AbstractCollection", name := "size", desc := "()I" } : Jvm.MethodName)) ∈ lw_all := lw_g (lw_at lw_m6 208 rfl) rfl
theorem q1545 : (Jvm.Cond.declares ({ cls := "java/util/AbstractCollection", name := "size", desc := "()I" } : Jvm.MethodName)) ∈ lw_tbl := lw_at lw_m6 209 rfl
theorem q1546 : (Jvm.Cond.sameMethod "java/util/AbstractCollection" "java/util/AbstractCollection" "size" "()I") ∈ lw_all := lw_g (lw_at lw_m6 210 rfl) rfl
theorem q139 : (Jvm.Cond.initialized "java/util/ArrayDeque") ∈ lw_all := lw_g (lw_at lw_m1 3 rfl) rfl
theorem q200 : (Jvm.Cond.instantiable "java/util/ArrayDeque" (3 : Nat)) ∈ lw_all := lw_g (lw_at lw_m1 64 rfl) rfl
theorem q202 : (Jvm.Cond.instanceMethod ({ cls := "java/util/ArrayDeque", name := "<init>", desc := "()V" } : Jvm.MethodName)) ∈ lw_all := lw_g (lw_at lw_m1 66 rfl) rfl
theorem q203 : (Jvm.Cond.code ({ cls := "java/util/ArrayDeque", name := "<init>", desc := "()V" } : Jvm.MethodName) prog_49_method_3_code (1 : Nat) (Option.none : Option Jvm.ClassFile.FieldType)) ∈ lw_all := lw_g (lw_at lw_m1 67 rfl) rfl
theorem q204 : (Jvm.Cond.methodLink "java/util/ArrayDeque" (42 : Nat) ({ cls := "java/util/AbstractCollection", name := "<init>", desc := "()V" } : Jvm.MethodName)) ∈ lw_all := lw_g (lw_at lw_m1 68 rfl) rfl
theorem q208 : (Jvm.Cond.classLink "java/util/ArrayDeque" (47 : Nat) "java/lang/Object") ∈ lw_all := lw_g (lw_at lw_m1 72 rfl) rfl
theorem q210 : (Jvm.Cond.fieldLink "java/util/ArrayDeque" (3 : Nat) "java/util/ArrayDeque" "elements" "[Ljava/lang/Object;") ∈ lw_all := lw_g (lw_at lw_m1 74 rfl) rfl
theorem q211 : (Jvm.Cond.fieldLink "java/util/ArrayDeque" (24 : Nat) "java/util/ArrayDeque" "head" "I") ∈ lw_all := lw_g (lw_at lw_m1 75 rfl) rfl
theorem q212 : (Jvm.Cond.fieldLink "java/util/ArrayDeque" (20 : Nat) "java/util/ArrayDeque" "tail" "I") ∈ lw_all := lw_g (lw_at lw_m1 76 rfl) rfl
theorem q213 : (Jvm.Cond.lays "java/util/ArrayDeque" "java/util/ArrayDeque" "elements" "[Ljava/lang/Object;") ∈ lw_all := lw_g (lw_at lw_m1 77 rfl) rfl
theorem q214 : (Jvm.Cond.soleField "java/util/ArrayDeque" "elements") ∈ lw_all := lw_g (lw_at lw_m1 78 rfl) rfl
theorem q215 : (Jvm.Cond.lays "java/util/ArrayDeque" "java/util/ArrayDeque" "head" "I") ∈ lw_all := lw_g (lw_at lw_m1 79 rfl) rfl
theorem q216 : (Jvm.Cond.soleField "java/util/ArrayDeque" "head") ∈ lw_all := lw_g (lw_at lw_m1 80 rfl) rfl
theorem q217 : (Jvm.Cond.lays "java/util/ArrayDeque" "java/util/ArrayDeque" "tail" "I") ∈ lw_all := lw_g (lw_at lw_m1 81 rfl) rfl
theorem q218 : (Jvm.Cond.soleField "java/util/ArrayDeque" "tail") ∈ lw_all := lw_g (lw_at lw_m1 82 rfl) rfl
theorem q219 : (Jvm.Cond.superclass "java/util/ArrayDeque" "java/util/AbstractCollection") ∈ lw_all := lw_g (lw_at lw_m1 83 rfl) rfl
theorem q352 : (Jvm.Cond.instanceMethod ({ cls := "java/util/ArrayDeque", name := "size", desc := "()I" } : Jvm.MethodName)) ∈ lw_all := lw_g (lw_at lw_m1 216 rfl) rfl
theorem q353 : (Jvm.Cond.selects "java/util/ArrayDeque" ({ cls := "java/util/ArrayDeque", name := "size", desc := "()I" } : Jvm.MethodName) ({ cls := "java/util/ArrayDeque", name := "size", desc := "()I" } : Jvm.MethodName)) ∈ lw_all := lw_g (lw_at lw_m1 217 rfl) rfl
theorem q354 : (Jvm.Cond.code ({ cls := "java/util/ArrayDeque", name := "size", desc := "()I" } : Jvm.MethodName) prog_49_method_37_code (1 : Nat) (Option.some Jvm.ClassFile.FieldType.int)) ∈ lw_all := lw_g (lw_at lw_m1 218 rfl) rfl
theorem q355 : (Jvm.Cond.methodLink "java/util/ArrayDeque" (127 : Nat) ({ cls := "java/util/ArrayDeque", name := "sub", desc := "(III)I" } : Jvm.MethodName)) ∈ lw_all := lw_g (lw_at lw_m1 219 rfl) rfl
theorem q356 : (Jvm.Cond.static ({ cls := "java/util/ArrayDeque", name := "sub", desc := "(III)I" } : Jvm.MethodName)) ∈ lw_all := lw_g (lw_at lw_m1 220 rfl) rfl
theorem q357 : (Jvm.Cond.code ({ cls := "java/util/ArrayDeque", name := "sub", desc := "(III)I" } : Jvm.MethodName) prog_49_method_9_code (3 : Nat) (Option.some Jvm.ClassFile.FieldType.int)) ∈ lw_all := lw_g (lw_at lw_m1 221 rfl) rfl
theorem q1161 : (Jvm.Cond.selects "java/util/ArrayDeque" ({ cls := "java/lang/Object", name := "getClass", desc := "()Ljava/lang/Class;" } : Jvm.MethodName) ({ cls := "java/lang/Object", name := "getClass", desc := "()Ljava/lang/Class;" } : Jvm.MethodName)) ∈ lw_all := lw_g (lw_at lw_m5 65 rfl) rfl
theorem q1547 : (Jvm.Cond.selects "java/util/ArrayDeque" ({ cls := "java/util/AbstractCollection", name := "size", desc := "()I" } : Jvm.MethodName) ({ cls := "java/util/ArrayDeque", name := "size", desc := "()I" } : Jvm.MethodName)) ∈ lw_all := lw_g (lw_at lw_m6 211 rfl) rfl
theorem q1773 : (Jvm.Cond.instanceMethod ({ cls := "java/util/ArrayDeque", name := "clear", desc := "()V" } : Jvm.MethodName)) ∈ lw_all := lw_g (lw_at lw_m7 197 rfl) rfl
theorem q1774 : (Jvm.Cond.selects "java/util/ArrayDeque" ({ cls := "java/util/ArrayDeque", name := "clear", desc := "()V" } : Jvm.MethodName) ({ cls := "java/util/ArrayDeque", name := "clear", desc := "()V" } : Jvm.MethodName)) ∈ lw_all := lw_g (lw_at lw_m7 198 rfl) rfl
theorem q1775 : (Jvm.Cond.code ({ cls := "java/util/ArrayDeque", name := "clear", desc := "()V" } : Jvm.MethodName) prog_49_method_53_code (1 : Nat) (Option.none : Option Jvm.ClassFile.FieldType)) ∈ lw_all := lw_g (lw_at lw_m7 199 rfl) rfl
theorem q1776 : (Jvm.Cond.methodLink "java/util/ArrayDeque" (181 : Nat) ({ cls := "java/util/ArrayDeque", name := "circularClear", desc := "([Ljava/lang/Object;II)V" } : Jvm.MethodName)) ∈ lw_all := lw_g (lw_at lw_m7 200 rfl) rfl
theorem q1777 : (Jvm.Cond.static ({ cls := "java/util/ArrayDeque", name := "circularClear", desc := "([Ljava/lang/Object;II)V" } : Jvm.MethodName)) ∈ lw_all := lw_g (lw_at lw_m7 201 rfl) rfl
theorem q1778 : (Jvm.Cond.code ({ cls := "java/util/ArrayDeque", name := "circularClear", desc := "([Ljava/lang/Object;II)V" } : Jvm.MethodName) prog_49_method_54_code (4 : Nat) (Option.none : Option Jvm.ClassFile.FieldType)) ∈ lw_all := lw_g (lw_at lw_m7 202 rfl) rfl
theorem q2771 : (Jvm.Cond.instanceMethod ({ cls := "java/util/ArrayDeque", name := "removeFirst", desc := "()Ljava/lang/Object;" } : Jvm.MethodName)) ∈ lw_all := lw_g (lw_at lw_m11 235 rfl) rfl
theorem q2772 : (Jvm.Cond.selects "java/util/ArrayDeque" ({ cls := "java/util/ArrayDeque", name := "removeFirst", desc := "()Ljava/lang/Object;" } : Jvm.MethodName) ({ cls := "java/util/ArrayDeque", name := "removeFirst", desc := "()Ljava/lang/Object;" } : Jvm.MethodName)) ∈ lw_all := lw_g (lw_at lw_m11 236 rfl) rfl
theorem q2773 : (Jvm.Cond.code ({ cls := "java/util/ArrayDeque", name := "removeFirst", desc := "()Ljava/lang/Object;" } : Jvm.MethodName) prog_49_method_18_code (2 : Nat) (Option.some (Jvm.ClassFile.FieldType.object "java/lang/Object"))) ∈ lw_all := lw_g (lw_at lw_m11 237 rfl) rfl
theorem q2774 : (Jvm.Cond.methodLink "java/util/ArrayDeque" (93 : Nat) ({ cls := "java/util/ArrayDeque", name := "pollFirst", desc := "()Ljava/lang/Object;" } : Jvm.MethodName)) ∈ lw_all := lw_g (lw_at lw_m11 238 rfl) rfl
theorem q2775 : (Jvm.Cond.instanceMethod ({ cls := "java/util/ArrayDeque", name := "pollFirst", desc := "()Ljava/lang/Object;" } : Jvm.MethodName)) ∈ lw_all := lw_g (lw_at lw_m11 239 rfl) rfl
theorem q2776 : (Jvm.Cond.selects "java/util/ArrayDeque" ({ cls := "java/util/ArrayDeque", name := "pollFirst", desc := "()Ljava/lang/Object;" } : Jvm.MethodName) ({ cls := "java/util/ArrayDeque", name := "pollFirst", desc := "()Ljava/lang/Object;" } : Jvm.MethodName)) ∈ lw_all := lw_g (lw_at lw_m12 0 rfl) rfl
theorem q2777 : (Jvm.Cond.code ({ cls := "java/util/ArrayDeque", name := "pollFirst", desc := "()Ljava/lang/Object;" } : Jvm.MethodName) prog_49_method_20_code (4 : Nat) (Option.some (Jvm.ClassFile.FieldType.object "java/lang/Object"))) ∈ lw_all := lw_g (lw_at lw_m12 1 rfl) rfl
theorem q2778 : (Jvm.Cond.methodLink "java/util/ArrayDeque" (103 : Nat) ({ cls := "java/util/ArrayDeque", name := "elementAt", desc := "([Ljava/lang/Object;I)Ljava/lang/Object;" } : Jvm.MethodName)) ∈ lw_all := lw_g (lw_at lw_m12 2 rfl) rfl
theorem q2779 : (Jvm.Cond.static ({ cls := "java/util/ArrayDeque", name := "elementAt", desc := "([Ljava/lang/Object;I)Ljava/lang/Object;" } : Jvm.MethodName)) ∈ lw_all := lw_g (lw_at lw_m12 3 rfl) rfl
theorem q2780 : (Jvm.Cond.code ({ cls := "java/util/ArrayDeque", name := "elementAt", desc := "([Ljava/lang/Object;I)Ljava/lang/Object;" } : Jvm.MethodName) prog_49_method_10_code (2 : Nat) (Option.some (Jvm.ClassFile.FieldType.object "java/lang/Object"))) ∈ lw_all := lw_g (lw_at lw_m12 4 rfl) rfl
theorem q2781 : (Jvm.Cond.methodLink "java/util/ArrayDeque" (74 : Nat) ({ cls := "java/util/ArrayDeque", name := "inc", desc := "(II)I" } : Jvm.MethodName)) ∈ lw_all := lw_g (lw_at lw_m12 5 rfl) rfl
theorem q2782 : (Jvm.Cond.static ({ cls := "java/util/ArrayDeque", name := "inc", desc := "(II)I" } : Jvm.MethodName)) ∈ lw_all := lw_g (lw_at lw_m12 6 rfl) rfl
theorem q2783 : (Jvm.Cond.code ({ cls := "java/util/ArrayDeque", name := "inc", desc := "(II)I" } : Jvm.MethodName) prog_49_method_6_code (2 : Nat) (Option.some Jvm.ClassFile.FieldType.int)) ∈ lw_all := lw_g (lw_at lw_m12 7 rfl) rfl
theorem q2785 : (Jvm.Cond.instanceMethod ({ cls := "java/util/ArrayDeque", name := "addLast", desc := "(Ljava/lang/Object;)V" } : Jvm.MethodName)) ∈ lw_all := lw_g (lw_at lw_m12 9 rfl) rfl
theorem q2786 : (Jvm.Cond.selects "java/util/ArrayDeque" ({ cls := "java/util/ArrayDeque", name := "addLast", desc := "(Ljava/lang/Object;)V" } : Jvm.MethodName) ({ cls := "java/util/ArrayDeque", name := "addLast", desc := "(Ljava/lang/Object;)V" } : Jvm.MethodName)) ∈ lw_all := lw_g (lw_at lw_m12 10 rfl) rfl
theorem q2787 : (Jvm.Cond.code ({ cls := "java/util/ArrayDeque", name := "addLast", desc := "(Ljava/lang/Object;)V" } : Jvm.MethodName) prog_49_method_13_code (3 : Nat) (Option.none : Option Jvm.ClassFile.FieldType)) ∈ lw_all := lw_g (lw_at lw_m12 11 rfl) rfl
theorem q2788 : (Jvm.Cond.methodLink "java/util/ArrayDeque" (71 : Nat) ({ cls := "java/util/ArrayDeque", name := "grow", desc := "(I)V" } : Jvm.MethodName)) ∈ lw_all := lw_g (lw_at lw_m12 12 rfl) rfl
theorem q2789 : (Jvm.Cond.privateMethod ({ cls := "java/util/ArrayDeque", name := "grow", desc := "(I)V" } : Jvm.MethodName)) ∈ lw_tbl := lw_at lw_m12 13 rfl
theorem q2790 : (Jvm.Cond.instanceMethod ({ cls := "java/util/ArrayDeque", name := "grow", desc := "(I)V" } : Jvm.MethodName)) ∈ lw_all := lw_g (lw_at lw_m12 14 rfl) rfl
theorem q2791 : (Jvm.Cond.code ({ cls := "java/util/ArrayDeque", name := "grow", desc := "(I)V" } : Jvm.MethodName) prog_49_method_1_code (9 : Nat) (Option.none : Option Jvm.ClassFile.FieldType)) ∈ lw_all := lw_g (lw_at lw_m12 15 rfl) rfl
theorem q2792 : (Jvm.Cond.constant "java/util/ArrayDeque" (9 : Nat) (2147483639 : Int32)) ∈ lw_all := lw_g (lw_at lw_m12 16 rfl) rfl
theorem q2793 : (Jvm.Cond.methodLink "java/util/ArrayDeque" (10 : Nat) ({ cls := "java/util/ArrayDeque", name := "newCapacity", desc := "(II)I" } : Jvm.MethodName)) ∈ lw_all := lw_g (lw_at lw_m12 17 rfl) rfl
theorem q2794 : (Jvm.Cond.privateMethod ({ cls := "java/util/ArrayDeque", name := "newCapacity", desc := "(II)I" } : Jvm.MethodName)) ∈ lw_tbl := lw_at lw_m12 18 rfl
theorem q2795 : (Jvm.Cond.instanceMethod ({ cls := "java/util/ArrayDeque", name := "newCapacity", desc := "(II)I" } : Jvm.MethodName)) ∈ lw_all := lw_g (lw_at lw_m12 19 rfl) rfl
theorem q2796 : (Jvm.Cond.code ({ cls := "java/util/ArrayDeque", name := "newCapacity", desc := "(II)I" } : Jvm.MethodName) prog_49_method_2_code (5 : Nat) (Option.some Jvm.ClassFile.FieldType.int)) ∈ lw_all := lw_g (lw_at lw_m12 20 rfl) rfl
theorem q2797 : (Jvm.Cond.classLink "java/util/ArrayDeque" (33 : Nat) "java/lang/IllegalStateException") ∈ lw_all := lw_g (lw_at lw_m12 21 rfl) rfl
theorem q2798 : (Jvm.Cond.stringRef "java/util/ArrayDeque" (35 : Nat) "Sorry, deque too big") ∈ lw_tbl := lw_at lw_m12 22 rfl
theorem q2799 : (Jvm.Cond.methodLink "java/util/ArrayDeque" (37 : Nat) ({ cls := "java/lang/IllegalStateException", name := "<init>", desc := "(Ljava/lang/String;)V" } : Jvm.MethodName)) ∈ lw_all := lw_g (lw_at lw_m12 23 rfl) rfl
theorem q2803 : (Jvm.Cond.constant "java/util/ArrayDeque" (41 : Nat) (2147483647 : Int32)) ∈ lw_all := lw_g (lw_at lw_m12 27 rfl) rfl
theorem q2804 : (Jvm.Cond.methodLink "java/util/ArrayDeque" (14 : Nat) ({ cls := "java/util/Arrays", name := "copyOf", desc := "([Ljava/lang/Object;I)[Ljava/lang/Object;" } : Jvm.MethodName)) ∈ lw_all := lw_g (lw_at lw_m12 28 rfl) rfl
theorem q2805 : (Jvm.Cond.methodLink "java/util/ArrayDeque" (27 : Nat) ({ cls := "java/lang/System", name := "arraycopy", desc := "(Ljava/lang/Object;ILjava/lang/Object;II)V" } : Jvm.MethodName)) ∈ lw_all := lw_g (lw_at lw_m12 29 rfl) rfl
theorem q2877 : (Jvm.Cond.instanceMethod ({ cls := "java/util/ArrayDeque", name := "isEmpty", desc := "()Z" } : Jvm.MethodName)) ∈ lw_all := lw_g (lw_at lw_m12 101 rfl) rfl
theorem q2878 : (Jvm.Cond.selects "java/util/ArrayDeque" ({ cls := "java/util/ArrayDeque", name := "isEmpty", desc := "()Z" } : Jvm.MethodName) ({ cls := "java/util/ArrayDeque", name := "isEmpty", desc := "()Z" } : Jvm.MethodName)) ∈ lw_all := lw_g (lw_at lw_m12 102 rfl) rfl
theorem q2879 : (Jvm.Cond.code ({ cls := "java/util/ArrayDeque", name := "isEmpty", desc := "()Z" } : Jvm.MethodName) prog_49_method_38_code (1 : Nat) (Option.some Jvm.ClassFile.FieldType.boolean)) ∈ lw_all := lw_g (lw_at lw_m12 103 rfl) rfl
theorem q2881 : (Jvm.Cond.instanceMethod ({ cls := "java/util/ArrayDeque", name := "removeLast", desc := "()Ljava/lang/Object;" } : Jvm.MethodName)) ∈ lw_all := lw_g (lw_at lw_m12 105 rfl) rfl
theorem q2882 : (Jvm.Cond.selects "java/util/ArrayDeque" ({ cls := "java/util/ArrayDeque", name := "removeLast", desc := "()Ljava/lang/Object;" } : Jvm.MethodName) ({ cls := "java/util/ArrayDeque", name := "removeLast", desc := "()Ljava/lang/Object;" } : Jvm.MethodName)) ∈ lw_all := lw_g (lw_at lw_m12 106 rfl) rfl
theorem q2883 : (Jvm.Cond.code ({ cls := "java/util/ArrayDeque", name := "removeLast", desc := "()Ljava/lang/Object;" } : Jvm.MethodName) prog_49_method_19_code (2 : Nat) (Option.some (Jvm.ClassFile.FieldType.object "java/lang/Object"))) ∈ lw_all := lw_g (lw_at lw_m12 107 rfl) rfl
theorem q2884 : (Jvm.Cond.methodLink "java/util/ArrayDeque" (100 : Nat) ({ cls := "java/util/ArrayDeque", name := "pollLast", desc := "()Ljava/lang/Object;" } : Jvm.MethodName)) ∈ lw_all := lw_g (lw_at lw_m12 108 rfl) rfl
theorem q2885 : (Jvm.Cond.instanceMethod ({ cls := "java/util/ArrayDeque", name := "pollLast", desc := "()Ljava/lang/Object;" } : Jvm.MethodName)) ∈ lw_all := lw_g (lw_at lw_m12 109 rfl) rfl
theorem q2886 : (Jvm.Cond.selects "java/util/ArrayDeque" ({ cls := "java/util/ArrayDeque", name := "pollLast", desc := "()Ljava/lang/Object;" } : Jvm.MethodName) ({ cls := "java/util/ArrayDeque", name := "pollLast", desc := "()Ljava/lang/Object;" } : Jvm.MethodName)) ∈ lw_all := lw_g (lw_at lw_m12 110 rfl) rfl
theorem q2887 : (Jvm.Cond.code ({ cls := "java/util/ArrayDeque", name := "pollLast", desc := "()Ljava/lang/Object;" } : Jvm.MethodName) prog_49_method_21_code (4 : Nat) (Option.some (Jvm.ClassFile.FieldType.object "java/lang/Object"))) ∈ lw_all := lw_g (lw_at lw_m12 111 rfl) rfl
theorem q2888 : (Jvm.Cond.methodLink "java/util/ArrayDeque" (68 : Nat) ({ cls := "java/util/ArrayDeque", name := "dec", desc := "(II)I" } : Jvm.MethodName)) ∈ lw_all := lw_g (lw_at lw_m12 112 rfl) rfl
theorem q2889 : (Jvm.Cond.static ({ cls := "java/util/ArrayDeque", name := "dec", desc := "(II)I" } : Jvm.MethodName)) ∈ lw_all := lw_g (lw_at lw_m12 113 rfl) rfl
theorem q2890 : (Jvm.Cond.code ({ cls := "java/util/ArrayDeque", name := "dec", desc := "(II)I" } : Jvm.MethodName) prog_49_method_7_code (2 : Nat) (Option.some Jvm.ClassFile.FieldType.int)) ∈ lw_all := lw_g (lw_at lw_m12 114 rfl) rfl
theorem q3665 : (Jvm.Cond.castable "java/util/ArrayDeque" "java/lang/Object") ∈ lw_tbl := lw_at lw_m15 169 rfl
theorem q140 : (Jvm.Cond.initialized "java/lang/AbstractStringBuilder") ∈ lw_all := lw_g (lw_at lw_m1 4 rfl) rfl
theorem q229 : (Jvm.Cond.instanceMethod ({ cls := "java/lang/AbstractStringBuilder", name := "<init>", desc := "(I)V" } : Jvm.MethodName)) ∈ lw_all := lw_g (lw_at lw_m1 93 rfl) rfl
theorem q230 : (Jvm.Cond.code ({ cls := "java/lang/AbstractStringBuilder", name := "<init>", desc := "(I)V" } : Jvm.MethodName) prog_17_method_2_code (2 : Nat) (Option.none : Option Jvm.ClassFile.FieldType)) ∈ lw_all := lw_g (lw_at lw_m1 94 rfl) rfl
theorem q231 : (Jvm.Cond.methodLink "java/lang/AbstractStringBuilder" (3 : Nat) ({ cls := "java/lang/Object", name := "<init>", desc := "()V" } : Jvm.MethodName)) ∈ lw_all := lw_g (lw_at lw_m1 95 rfl) rfl
theorem q232 : (Jvm.Cond.fieldLink "java/lang/AbstractStringBuilder" (18 : Nat) "java/lang/String" "COMPACT_STRINGS" "Z") ∈ lw_all := lw_g (lw_at lw_m1 96 rfl) rfl
theorem q234 : (Jvm.Cond.methodLink "java/lang/AbstractStringBuilder" (26 : Nat) ({ cls := "java/lang/StringUTF16", name := "newBytesFor", desc := "(I)[B" } : Jvm.MethodName)) ∈ lw_all := lw_g (lw_at lw_m1 98 rfl) rfl
theorem q241 : (Jvm.Cond.fieldLink "java/lang/AbstractStringBuilder" (15 : Nat) "java/lang/AbstractStringBuilder" "value" "[B") ∈ lw_all := lw_g (lw_at lw_m1 105 rfl) rfl
theorem q242 : (Jvm.Cond.fieldLink "java/lang/AbstractStringBuilder" (22 : Nat) "java/lang/AbstractStringBuilder" "coder" "B") ∈ lw_all := lw_g (lw_at lw_m1 106 rfl) rfl
theorem q243 : (Jvm.Cond.fieldLink "java/lang/AbstractStringBuilder" (73 : Nat) "java/lang/AbstractStringBuilder" "maybeLatin1" "Z") ∈ lw_all := lw_g (lw_at lw_m1 107 rfl) rfl
theorem q245 : (Jvm.Cond.fieldLink "java/lang/AbstractStringBuilder" (79 : Nat) "java/lang/AbstractStringBuilder" "count" "I") ∈ lw_all := lw_g (lw_at lw_m1 109 rfl) rfl
theorem q247 : (Jvm.Cond.soleField "java/lang/AbstractStringBuilder" "value") ∈ lw_all := lw_g (lw_at lw_m1 111 rfl) rfl
theorem q249 : (Jvm.Cond.soleField "java/lang/AbstractStringBuilder" "coder") ∈ lw_all := lw_g (lw_at lw_m1 113 rfl) rfl
theorem q251 : (Jvm.Cond.soleField "java/lang/AbstractStringBuilder" "maybeLatin1") ∈ lw_all := lw_g (lw_at lw_m1 115 rfl) rfl
theorem q253 : (Jvm.Cond.soleField "java/lang/AbstractStringBuilder" "count") ∈ lw_all := lw_g (lw_at lw_m1 117 rfl) rfl
theorem q516 : (Jvm.Cond.instanceMethod ({ cls := "java/lang/AbstractStringBuilder", name := "append", desc := "(Ljava/lang/String;)Ljava/lang/AbstractStringBuilder;" } : Jvm.MethodName)) ∈ lw_all := lw_g (lw_at lw_m2 140 rfl) rfl
theorem q517 : (Jvm.Cond.code ({ cls := "java/lang/AbstractStringBuilder", name := "append", desc := "(Ljava/lang/String;)Ljava/lang/AbstractStringBuilder;" } : Jvm.MethodName) prog_17_method_22_code (3 : Nat) (Option.some (Jvm.ClassFile.FieldType.object "java/lang/AbstractStringBuilder"))) ∈ lw_all := lw_g (lw_at lw_m2 141 rfl) rfl
theorem q518 : (Jvm.Cond.methodLink "java/lang/AbstractStringBuilder" (204 : Nat) ({ cls := "java/lang/AbstractStringBuilder", name := "appendNull", desc := "()Ljava/lang/AbstractStringBuilder;" } : Jvm.MethodName)) ∈ lw_all := lw_g (lw_at lw_m2 142 rfl) rfl
theorem q519 : (Jvm.Cond.privateMethod ({ cls := "java/lang/AbstractStringBuilder", name := "appendNull", desc := "()Ljava/lang/AbstractStringBuilder;" } : Jvm.MethodName)) ∈ lw_tbl := lw_at lw_m2 143 rfl
theorem q520 : (Jvm.Cond.instanceMethod ({ cls := "java/lang/AbstractStringBuilder", name := "appendNull", desc := "()Ljava/lang/AbstractStringBuilder;" } : Jvm.MethodName)) ∈ lw_all := lw_g (lw_at lw_m2 144 rfl) rfl
theorem q521 : (Jvm.Cond.code ({ cls := "java/lang/AbstractStringBuilder", name := "appendNull", desc := "()Ljava/lang/AbstractStringBuilder;" } : Jvm.MethodName) prog_17_method_26_code (3 : Nat) (Option.some (Jvm.ClassFile.FieldType.object "java/lang/AbstractStringBuilder"))) ∈ lw_all := lw_g (lw_at lw_m2 145 rfl) rfl
theorem q522 : (Jvm.Cond.methodLink "java/lang/AbstractStringBuilder" (100 : Nat) ({ cls := "java/lang/AbstractStringBuilder", name := "ensureCapacityInternal", desc := "(I)V" } : Jvm.MethodName)) ∈ lw_all := lw_g (lw_at lw_m2 146 rfl) rfl
theorem q523 : (Jvm.Cond.privateMethod ({ cls := "java/lang/AbstractStringBuilder", name := "ensureCapacityInternal", desc := "(I)V" } : Jvm.MethodName)) ∈ lw_tbl := lw_at lw_m2 147 rfl
theorem q524 : (Jvm.Cond.instanceMethod ({ cls := "java/lang/AbstractStringBuilder", name := "ensureCapacityInternal", desc := "(I)V" } : Jvm.MethodName)) ∈ lw_all := lw_g (lw_at lw_m2 148 rfl) rfl
theorem q525 : (Jvm.Cond.code ({ cls := "java/lang/AbstractStringBuilder", name := "ensureCapacityInternal", desc := "(I)V" } : Jvm.MethodName) prog_17_method_9_code (3 : Nat) (Option.none : Option Jvm.ClassFile.FieldType)) ∈ lw_all := lw_g (lw_at lw_m2 149 rfl) rfl
theorem q526 : (Jvm.Cond.methodLink "java/lang/AbstractStringBuilder" (104 : Nat) ({ cls := "java/lang/AbstractStringBuilder", name := "newCapacity", desc := "(I)I" } : Jvm.MethodName)) ∈ lw_all := lw_g (lw_at lw_m2 150 rfl) rfl
theorem q527 : (Jvm.Cond.privateMethod ({ cls := "java/lang/AbstractStringBuilder", name := "newCapacity", desc := "(I)I" } : Jvm.MethodName)) ∈ lw_tbl := lw_at lw_m2 151 rfl
theorem q528 : (Jvm.Cond.instanceMethod ({ cls := "java/lang/AbstractStringBuilder", name := "newCapacity", desc := "(I)I" } : Jvm.MethodName)) ∈ lw_all := lw_g (lw_at lw_m2 152 rfl) rfl
theorem q529 : (Jvm.Cond.code ({ cls := "java/lang/AbstractStringBuilder", name := "newCapacity", desc := "(I)I" } : Jvm.MethodName) prog_17_method_10_code (6 : Nat) (Option.some Jvm.ClassFile.FieldType.int)) ∈ lw_all := lw_g (lw_at lw_m2 153 rfl) rfl
theorem q530 : (Jvm.Cond.methodLink "java/lang/AbstractStringBuilder" (114 : Nat) ({ cls := "jdk/internal/util/ArraysSupport", name := "newLength", desc := "(III)I" } : Jvm.MethodName)) ∈ lw_all := lw_g (lw_at lw_m2 154 rfl) rfl
theorem q540 : (Jvm.Cond.constant "java/lang/AbstractStringBuilder" (39 : Nat) (2147483647 : Int32)) ∈ lw_all := lw_g (lw_at lw_m2 164 rfl) rfl
theorem q541 : (Jvm.Cond.methodLink "java/lang/AbstractStringBuilder" (108 : Nat) ({ cls := "java/util/Arrays", name := "copyOf", desc := "([BI)[B" } : Jvm.MethodName)) ∈ lw_all := lw_g (lw_at lw_m2 165 rfl) rfl
theorem q557 : (Jvm.Cond.methodLink "java/lang/AbstractStringBuilder" (83 : Nat) ({ cls := "java/lang/AbstractStringBuilder", name := "isLatin1", desc := "()Z" } : Jvm.MethodName)) ∈ lw_all := lw_g (lw_at lw_m2 181 rfl) rfl
theorem q558 : (Jvm.Cond.instanceMethod ({ cls := "java/lang/AbstractStringBuilder", name := "isLatin1", desc := "()Z" } : Jvm.MethodName)) ∈ lw_all := lw_g (lw_at lw_m2 182 rfl) rfl
theorem q559 : (Jvm.Cond.sameMethod "java/lang/AbstractStringBuilder" "java/lang/AbstractStringBuilder" "isLatin1" "()Z") ∈ lw_all := lw_g (lw_at lw_m2 183 rfl) rfl
theorem q561 : (Jvm.Cond.code ({ cls := "java/lang/AbstractStringBuilder", name := "isLatin1", desc := "()Z" } : Jvm.MethodName) prog_17_method_68_code (1 : Nat) (Option.some Jvm.ClassFile.FieldType.boolean)) ∈ lw_all := lw_g (lw_at lw_m2 185 rfl) rfl
theorem q562 : (Jvm.Cond.methodLink "java/lang/AbstractStringBuilder" (226 : Nat) ({ cls := "java/lang/StringUTF16", name := "putCharsAt", desc := "([BICCCC)I" } : Jvm.MethodName)) ∈ lw_all := lw_g (lw_at lw_m2 186 rfl) rfl
theorem q588 : (Jvm.Cond.methodLink "java/lang/AbstractStringBuilder" (32 : Nat) ({ cls := "java/lang/String", name := "length", desc := "()I" } : Jvm.MethodName)) ∈ lw_all := lw_g (lw_at lw_m2 212 rfl) rfl
theorem q597 : (Jvm.Cond.methodLink "java/lang/AbstractStringBuilder" (208 : Nat) ({ cls := "java/lang/AbstractStringBuilder", name := "putStringAt", desc := "(ILjava/lang/String;)V" } : Jvm.MethodName)) ∈ lw_all := lw_g (lw_at lw_m2 221 rfl) rfl
theorem q598 : (Jvm.Cond.privateMethod ({ cls := "java/lang/AbstractStringBuilder", name := "putStringAt", desc := "(ILjava/lang/String;)V" } : Jvm.MethodName)) ∈ lw_tbl := lw_at lw_m2 222 rfl
theorem q599 : (Jvm.Cond.instanceMethod ({ cls := "java/lang/AbstractStringBuilder", name := "putStringAt", desc := "(ILjava/lang/String;)V" } : Jvm.MethodName)) ∈ lw_all := lw_g (lw_at lw_m2 223 rfl) rfl
theorem q600 : (Jvm.Cond.code ({ cls := "java/lang/AbstractStringBuilder", name := "putStringAt", desc := "(ILjava/lang/String;)V" } : Jvm.MethodName) prog_17_method_73_code (3 : Nat) (Option.none : Option Jvm.ClassFile.FieldType)) ∈ lw_all := lw_g (lw_at lw_m2 224 rfl) rfl
theorem q601 : (Jvm.Cond.methodLink "java/lang/AbstractStringBuilder" (397 : Nat) ({ cls := "java/lang/AbstractStringBuilder", name := "inflateIfNeededFor", desc := "(Ljava/lang/String;)V" } : Jvm.MethodName)) ∈ lw_all := lw_g (lw_at lw_m2 225 rfl) rfl
theorem q602 : (Jvm.Cond.privateMethod ({ cls := "java/lang/AbstractStringBuilder", name := "inflateIfNeededFor", desc := "(Ljava/lang/String;)V" } : Jvm.MethodName)) ∈ lw_tbl := lw_at lw_m2 226 rfl
theorem q603 : (Jvm.Cond.instanceMethod ({ cls := "java/lang/AbstractStringBuilder", name := "inflateIfNeededFor", desc := "(Ljava/lang/String;)V" } : Jvm.MethodName)) ∈ lw_all := lw_g (lw_at lw_m2 227 rfl) rfl
theorem q604 : (Jvm.Cond.code ({ cls := "java/lang/AbstractStringBuilder", name := "inflateIfNeededFor", desc := "(Ljava/lang/String;)V" } : Jvm.MethodName) prog_17_method_71_code (2 : Nat) (Option.none : Option Jvm.ClassFile.FieldType)) ∈ lw_all := lw_g (lw_at lw_m2 228 rfl) rfl
theorem q605 : (Jvm.Cond.methodLink "java/lang/AbstractStringBuilder" (40 : Nat) ({ cls := "java/lang/String", name := "coder", desc := "()B" } : Jvm.MethodName)) ∈ lw_all := lw_g (lw_at lw_m2 229 rfl) rfl
theorem q606 : (Jvm.Cond.methodLink "java/lang/AbstractStringBuilder" (195 : Nat) ({ cls := "java/lang/AbstractStringBuilder", name := "inflate", desc := "()V" } : Jvm.MethodName)) ∈ lw_all := lw_g (lw_at lw_m2 230 rfl) rfl
theorem q607 : (Jvm.Cond.privateMethod ({ cls := "java/lang/AbstractStringBuilder", name := "inflate", desc := "()V" } : Jvm.MethodName)) ∈ lw_tbl := lw_at lw_m2 231 rfl
theorem q608 : (Jvm.Cond.instanceMethod ({ cls := "java/lang/AbstractStringBuilder", name := "inflate", desc := "()V" } : Jvm.MethodName)) ∈ lw_all := lw_g (lw_at lw_m2 232 rfl) rfl
theorem q609 : (Jvm.Cond.code ({ cls := "java/lang/AbstractStringBuilder", name := "inflate", desc := "()V" } : Jvm.MethodName) prog_17_method_11_code (2 : Nat) (Option.none : Option Jvm.ClassFile.FieldType)) ∈ lw_all := lw_g (lw_at lw_m2 233 rfl) rfl
theorem q610 : (Jvm.Cond.methodLink "java/lang/AbstractStringBuilder" (125 : Nat) ({ cls := "java/lang/StringLatin1", name := "inflate", desc := "([BI[BII)V" } : Jvm.MethodName)) ∈ lw_all := lw_g (lw_at lw_m2 234 rfl) rfl
theorem q625 : (Jvm.Cond.methodLink "java/lang/AbstractStringBuilder" (399 : Nat) ({ cls := "java/lang/String", name := "getBytes", desc := "([BIB)V" } : Jvm.MethodName)) ∈ lw_all := lw_g (lw_at lw_m3 9 rfl) rfl
theorem q636 : (Jvm.Cond.instanceMethod ({ cls := "java/lang/AbstractStringBuilder", name := "append", desc := "(I)Ljava/lang/AbstractStringBuilder;" } : Jvm.MethodName)) ∈ lw_all := lw_g (lw_at lw_m3 20 rfl) rfl
theorem q637 : (Jvm.Cond.code ({ cls := "java/lang/AbstractStringBuilder", name := "append", desc := "(I)Ljava/lang/AbstractStringBuilder;" } : Jvm.MethodName) prog_17_method_32_code (4 : Nat) (Option.some (Jvm.ClassFile.FieldType.object "java/lang/AbstractStringBuilder"))) ∈ lw_all := lw_g (lw_at lw_m3 21 rfl) rfl
theorem q638 : (Jvm.Cond.methodLink "java/lang/AbstractStringBuilder" (245 : Nat) ({ cls := "java/lang/Integer", name := "stringSize", desc := "(I)I" } : Jvm.MethodName)) ∈ lw_all := lw_g (lw_at lw_m3 22 rfl) rfl
theorem q641 : (Jvm.Cond.methodLink "java/lang/AbstractStringBuilder" (248 : Nat) ({ cls := "java/lang/Integer", name := "getChars", desc := "(II[B)I" } : Jvm.MethodName)) ∈ lw_all := lw_g (lw_at lw_m3 25 rfl) rfl
theorem q648 : (Jvm.Cond.methodLink "java/lang/AbstractStringBuilder" (251 : Nat) ({ cls := "java/lang/StringUTF16", name := "getChars", desc := "(III[B)I" } : Jvm.MethodName)) ∈ lw_all := lw_g (lw_at lw_m3 32 rfl) rfl
theorem q669 : (Jvm.Cond.instanceMethod ({ cls := "java/lang/AbstractStringBuilder", name := "getValue", desc := "()[B" } : Jvm.MethodName)) ∈ lw_all := lw_g (lw_at lw_m3 53 rfl) rfl
theorem q670 : (Jvm.Cond.sameMethod "java/lang/AbstractStringBuilder" "java/lang/AbstractStringBuilder" "getValue" "()[B") ∈ lw_all := lw_g (lw_at lw_m3 54 rfl) rfl
theorem q672 : (Jvm.Cond.code ({ cls := "java/lang/AbstractStringBuilder", name := "getValue", desc := "()[B" } : Jvm.MethodName) prog_17_method_64_code (1 : Nat) (Option.some (Jvm.ClassFile.FieldType.array Jvm.ClassFile.FieldType.byte))) ∈ lw_all := lw_g (lw_at lw_m3 56 rfl) rfl
theorem q674 : (Jvm.Cond.instanceMethod ({ cls := "java/lang/AbstractStringBuilder", name := "length", desc := "()I" } : Jvm.MethodName)) ∈ lw_all := lw_g (lw_at lw_m3 58 rfl) rfl
theorem q675 : (Jvm.Cond.sameMethod "java/lang/AbstractStringBuilder" "java/lang/AbstractStringBuilder" "length" "()I") ∈ lw_all := lw_g (lw_at lw_m3 59 rfl) rfl
theorem q680 : (Jvm.Cond.code ({ cls := "java/lang/AbstractStringBuilder", name := "length", desc := "()I" } : Jvm.MethodName) prog_17_method_6_code (1 : Nat) (Option.some Jvm.ClassFile.FieldType.int)) ∈ lw_all := lw_g (lw_at lw_m3 64 rfl) rfl
theorem q909 : (Jvm.Cond.instanceMethod ({ cls := "java/lang/AbstractStringBuilder", name := "append", desc := "(C)Ljava/lang/AbstractStringBuilder;" } : Jvm.MethodName)) ∈ lw_all := lw_g (lw_at lw_m4 53 rfl) rfl
theorem q910 : (Jvm.Cond.code ({ cls := "java/lang/AbstractStringBuilder", name := "append", desc := "(C)Ljava/lang/AbstractStringBuilder;" } : Jvm.MethodName) prog_17_method_31_code (2 : Nat) (Option.some (Jvm.ClassFile.FieldType.object "java/lang/AbstractStringBuilder"))) ∈ lw_all := lw_g (lw_at lw_m4 54 rfl) rfl
theorem q911 : (Jvm.Cond.methodLink "java/lang/AbstractStringBuilder" (191 : Nat) ({ cls := "java/lang/StringLatin1", name := "canEncode", desc := "(C)Z" } : Jvm.MethodName)) ∈ lw_all := lw_g (lw_at lw_m4 55 rfl) rfl
theorem q914 : (Jvm.Cond.methodLink "java/lang/AbstractStringBuilder" (197 : Nat) ({ cls := "java/lang/StringUTF16", name := "putCharSB", desc := "([BII)V" } : Jvm.MethodName)) ∈ lw_all := lw_g (lw_at lw_m4 58 rfl) rfl
theorem q2601 : (Jvm.Cond.instanceMethod ({ cls := "java/lang/AbstractStringBuilder", name := "setLength", desc := "(I)V" } : Jvm.MethodName)) ∈ lw_all := lw_g (lw_at lw_m11 65 rfl) rfl
theorem q2602 : (Jvm.Cond.code ({ cls := "java/lang/AbstractStringBuilder", name := "setLength", desc := "(I)V" } : Jvm.MethodName) prog_17_method_13_code (2 : Nat) (Option.none : Option Jvm.ClassFile.FieldType)) ∈ lw_all := lw_g (lw_at lw_m11 66 rfl) rfl
theorem q2603 : (Jvm.Cond.classLink "java/lang/AbstractStringBuilder" (129 : Nat) "java/lang/StringIndexOutOfBoundsException") ∈ lw_all := lw_g (lw_at lw_m11 67 rfl) rfl
theorem q2605 : (Jvm.Cond.methodLink "java/lang/AbstractStringBuilder" (131 : Nat) ({ cls := "java/lang/StringIndexOutOfBoundsException", name := "<init>", desc := "(I)V" } : Jvm.MethodName)) ∈ lw_all := lw_g (lw_at lw_m11 69 rfl) rfl
theorem q2622 : (Jvm.Cond.methodLink "java/lang/AbstractStringBuilder" (133 : Nat) ({ cls := "java/lang/StringLatin1", name := "fillNull", desc := "([BII)V" } : Jvm.MethodName)) ∈ lw_all := lw_g (lw_at lw_m11 86 rfl) rfl
theorem q2644 : (Jvm.Cond.methodLink "java/lang/AbstractStringBuilder" (137 : Nat) ({ cls := "java/lang/StringUTF16", name := "fillNull", desc := "([BII)V" } : Jvm.MethodName)) ∈ lw_all := lw_g (lw_at lw_m11 108 rfl) rfl
theorem q2655 : (Jvm.Cond.instanceMethod ({ cls := "java/lang/AbstractStringBuilder", name := "append", desc := "(J)Ljava/lang/AbstractStringBuilder;" } : Jvm.MethodName)) ∈ lw_all := lw_g (lw_at lw_m11 119 rfl) rfl
theorem q2656 : (Jvm.Cond.code ({ cls := "java/lang/AbstractStringBuilder", name := "append", desc := "(J)Ljava/lang/AbstractStringBuilder;" } : Jvm.MethodName) prog_17_method_33_code (5 : Nat) (Option.some (Jvm.ClassFile.FieldType.object "java/lang/AbstractStringBuilder"))) ∈ lw_all := lw_g (lw_at lw_m11 120 rfl) rfl
theorem q2657 : (Jvm.Cond.methodLink "java/lang/AbstractStringBuilder" (254 : Nat) ({ cls := "java/lang/Long", name := "stringSize", desc := "(J)I" } : Jvm.MethodName)) ∈ lw_all := lw_g (lw_at lw_m11 121 rfl) rfl
theorem q2662 : (Jvm.Cond.methodLink "java/lang/AbstractStringBuilder" (259 : Nat) ({ cls := "java/lang/Long", name := "getChars", desc := "(JI[B)I" } : Jvm.MethodName)) ∈ lw_all := lw_g (lw_at lw_m11 126 rfl) rfl
theorem q2669 : (Jvm.Cond.methodLink "java/lang/AbstractStringBuilder" (262 : Nat) ({ cls := "java/lang/StringUTF16", name := "getChars", desc := "(JII[B)I" } : Jvm.MethodName)) ∈ lw_all := lw_g (lw_at lw_m11 133 rfl) rfl
theorem q2690 : (Jvm.Cond.instanceMethod ({ cls := "java/lang/AbstractStringBuilder", name := "charAt", desc := "(I)C" } : Jvm.MethodName)) ∈ lw_all := lw_g (lw_at lw_m11 154 rfl) rfl
theorem q2691 : (Jvm.Cond.code ({ cls := "java/lang/AbstractStringBuilder", name := "charAt", desc := "(I)C" } : Jvm.MethodName) prog_17_method_14_code (5 : Nat) (Option.some Jvm.ClassFile.FieldType.char)) ∈ lw_all := lw_g (lw_at lw_m11 155 rfl) rfl
theorem q2692 : (Jvm.Cond.methodLink "java/lang/AbstractStringBuilder" (138 : Nat) ({ cls := "java/lang/Math", name := "min", desc := "(II)I" } : Jvm.MethodName)) ∈ lw_all := lw_g (lw_at lw_m11 156 rfl) rfl
theorem q2693 : (Jvm.Cond.methodLink "java/lang/AbstractStringBuilder" (144 : Nat) ({ cls := "java/lang/String", name := "checkIndex", desc := "(II)V" } : Jvm.MethodName)) ∈ lw_all := lw_g (lw_at lw_m11 157 rfl) rfl
theorem q2694 : (Jvm.Cond.methodLink "java/lang/AbstractStringBuilder" (148 : Nat) ({ cls := "java/lang/StringUTF16", name := "getChar", desc := "([BI)C" } : Jvm.MethodName)) ∈ lw_all := lw_g (lw_at lw_m11 158 rfl) rfl
theorem q3643 : (Jvm.Cond.sameMethod "java/lang/AbstractStringBuilder" "java/lang/AbstractStringBuilder" "append" "(Ljava/lang/String;)Ljava/lang/AbstractStringBuilder;") ∈ lw_all := lw_g (lw_at lw_m15 147 rfl) rfl
theorem q3644 : (Jvm.Cond.sameMethod "java/lang/AbstractStringBuilder" "java/lang/AbstractStringBuilder" "appendNull" "()Ljava/lang/AbstractStringBuilder;") ∈ lw_all := lw_g (lw_at lw_m15 148 rfl) rfl
theorem q3645 : (Jvm.Cond.sameMethod "java/lang/AbstractStringBuilder" "java/lang/AbstractStringBuilder" "ensureCapacityInternal" "(I)V") ∈ lw_all := lw_g (lw_at lw_m15 149 rfl) rfl
theorem q3646 : (Jvm.Cond.sameMethod "java/lang/AbstractStringBuilder" "java/lang/AbstractStringBuilder" "newCapacity" "(I)I") ∈ lw_all := lw_g (lw_at lw_m15 150 rfl) rfl
theorem q3647 : (Jvm.Cond.sameMethod "java/lang/AbstractStringBuilder" "java/lang/AbstractStringBuilder" "putStringAt" "(ILjava/lang/String;)V") ∈ lw_all := lw_g (lw_at lw_m15 151 rfl) rfl
theorem q3648 : (Jvm.Cond.sameMethod "java/lang/AbstractStringBuilder" "java/lang/AbstractStringBuilder" "inflateIfNeededFor" "(Ljava/lang/String;)V") ∈ lw_all := lw_g (lw_at lw_m15 152 rfl) rfl
theorem q3649 : (Jvm.Cond.sameMethod "java/lang/AbstractStringBuilder" "java/lang/AbstractStringBuilder" "inflate" "()V") ∈ lw_all := lw_g (lw_at lw_m15 153 rfl) rfl
theorem q3650 : (Jvm.Cond.sameMethod "java/lang/AbstractStringBuilder" "java/lang/AbstractStringBuilder" "append" "(I)Ljava/lang/AbstractStringBuilder;") ∈ lw_all := lw_g (lw_at lw_m15 154 rfl) rfl
theorem q3651 : (Jvm.Cond.sameMethod "java/lang/AbstractStringBuilder" "java/lang/AbstractStringBuilder" "append" "(C)Ljava/lang/AbstractStringBuilder;") ∈ lw_all := lw_g (lw_at lw_m15 155 rfl) rfl
theorem q3655 : (Jvm.Cond.sameMethod "java/lang/AbstractStringBuilder" "java/lang/AbstractStringBuilder" "setLength" "(I)V") ∈ lw_all := lw_g (lw_at lw_m15 159 rfl) rfl
theorem q3656 : (Jvm.Cond.sameMethod "java/lang/AbstractStringBuilder" "java/lang/AbstractStringBuilder" "append" "(J)Ljava/lang/AbstractStringBuilder;") ∈ lw_all := lw_g (lw_at lw_m15 160 rfl) rfl
theorem q3658 : (Jvm.Cond.sameMethod "java/lang/AbstractStringBuilder" "java/lang/AbstractStringBuilder" "charAt" "(I)C") ∈ lw_all := lw_g (lw_at lw_m15 162 rfl) rfl
theorem q141 : (Jvm.Cond.initialized "java/lang/StringBuilder") ∈ lw_all := lw_g (lw_at lw_m1 5 rfl) rfl
theorem q224 : (Jvm.Cond.instantiable "java/lang/StringBuilder" (4 : Nat)) ∈ lw_all := lw_g (lw_at lw_m1 88 rfl) rfl
theorem q226 : (Jvm.Cond.instanceMethod ({ cls := "java/lang/StringBuilder", name := "<init>", desc := "()V" } : Jvm.MethodName)) ∈ lw_all := lw_g (lw_at lw_m1 90 rfl) rfl
theorem q227 : (Jvm.Cond.code ({ cls := "java/lang/StringBuilder", name := "<init>", desc := "()V" } : Jvm.MethodName) prog_35_method_1_code (1 : Nat) (Option.none : Option Jvm.ClassFile.FieldType)) ∈ lw_all := lw_g (lw_at lw_m1 91 rfl) rfl
theorem q228 : (Jvm.Cond.methodLink "java/lang/StringBuilder" (1 : Nat) ({ cls := "java/lang/AbstractStringBuilder", name := "<init>", desc := "(I)V" } : Jvm.MethodName)) ∈ lw_all := lw_g (lw_at lw_m1 92 rfl) rfl
theorem q246 : (Jvm.Cond.lays "java/lang/StringBuilder" "java/lang/AbstractStringBuilder" "value" "[B") ∈ lw_all := lw_g (lw_at lw_m1 110 rfl) rfl
theorem q248 : (Jvm.Cond.lays "java/lang/StringBuilder" "java/lang/AbstractStringBuilder" "coder" "B") ∈ lw_all := lw_g (lw_at lw_m1 112 rfl) rfl
theorem q250 : (Jvm.Cond.lays "java/lang/StringBuilder" "java/lang/AbstractStringBuilder" "maybeLatin1" "Z") ∈ lw_all := lw_g (lw_at lw_m1 114 rfl) rfl
theorem q252 : (Jvm.Cond.lays "java/lang/StringBuilder" "java/lang/AbstractStringBuilder" "count" "I") ∈ lw_all := lw_g (lw_at lw_m1 116 rfl) rfl
theorem q254 : (Jvm.Cond.superclass "java/lang/StringBuilder" "java/lang/AbstractStringBuilder") ∈ lw_all := lw_g (lw_at lw_m1 118 rfl) rfl
theorem q512 : (Jvm.Cond.instanceMethod ({ cls := "java/lang/StringBuilder", name := "append", desc := "(Ljava/lang/String;)Ljava/lang/StringBuilder;" } : Jvm.MethodName)) ∈ lw_all := lw_g (lw_at lw_m2 136 rfl) rfl
theorem q513 : (Jvm.Cond.selects "java/lang/StringBuilder" ({ cls := "java/lang/StringBuilder", name := "append", desc := "(Ljava/lang/String;)Ljava/lang/StringBuilder;" } : Jvm.MethodName) ({ cls := "java/lang/StringBuilder", name := "append", desc := "(Ljava/lang/String;)Ljava/lang/StringBuilder;" } : Jvm.MethodName)) ∈ lw_all := lw_g (lw_at lw_m2 137 rfl) rfl
theorem q514 : (Jvm.Cond.code ({ cls := "java/lang/StringBuilder", name := "append", desc := "(Ljava/lang/String;)Ljava/lang/StringBuilder;" } : Jvm.MethodName) prog_35_method_7_code (2 : Nat) (Option.some (Jvm.ClassFile.FieldType.object "java/lang/StringBuilder"))) ∈ lw_all := lw_g (lw_at lw_m2 138 rfl) rfl
theorem q515 : (Jvm.Cond.methodLink "java/lang/StringBuilder" (29 : Nat) ({ cls := "java/lang/AbstractStringBuilder", name := "append", desc := "(Ljava/lang/String;)Ljava/lang/AbstractStringBuilder;" } : Jvm.MethodName)) ∈ lw_all := lw_g (lw_at lw_m2 139 rfl) rfl
theorem q560 : (Jvm.Cond.selects "java/lang/StringBuilder" ({ cls := "java/lang/AbstractStringBuilder", name := "isLatin1", desc := "()Z" } : Jvm.MethodName) ({ cls := "java/lang/AbstractStringBuilder", name := "isLatin1", desc := "()Z" } : Jvm.MethodName)) ∈ lw_all := lw_g (lw_at lw_m2 184 rfl) rfl
theorem q632 : (Jvm.Cond.instanceMethod ({ cls := "java/lang/StringBuilder", name := "append", desc := "(I)Ljava/lang/StringBuilder;" } : Jvm.MethodName)) ∈ lw_all := lw_g (lw_at lw_m3 16 rfl) rfl
theorem q633 : (Jvm.Cond.selects "java/lang/StringBuilder" ({ cls := "java/lang/StringBuilder", name := "append", desc := "(I)Ljava/lang/StringBuilder;" } : Jvm.MethodName) ({ cls := "java/lang/StringBuilder", name := "append", desc := "(I)Ljava/lang/StringBuilder;" } : Jvm.MethodName)) ∈ lw_all := lw_g (lw_at lw_m3 17 rfl) rfl
theorem q634 : (Jvm.Cond.code ({ cls := "java/lang/StringBuilder", name := "append", desc := "(I)Ljava/lang/StringBuilder;" } : Jvm.MethodName) prog_35_method_15_code (2 : Nat) (Option.some (Jvm.ClassFile.FieldType.object "java/lang/StringBuilder"))) ∈ lw_all := lw_g (lw_at lw_m3 18 rfl) rfl
theorem q635 : (Jvm.Cond.methodLink "java/lang/StringBuilder" (53 : Nat) ({ cls := "java/lang/AbstractStringBuilder", name := "append", desc := "(I)Ljava/lang/AbstractStringBuilder;" } : Jvm.MethodName)) ∈ lw_all := lw_g (lw_at lw_m3 19 rfl) rfl
theorem q657 : (Jvm.Cond.instanceMethod ({ cls := "java/lang/StringBuilder", name := "toString", desc := "()Ljava/lang/String;" } : Jvm.MethodName)) ∈ lw_all := lw_g (lw_at lw_m3 41 rfl) rfl
theorem q658 : (Jvm.Cond.selects "java/lang/StringBuilder" ({ cls := "java/lang/StringBuilder", name := "toString", desc := "()Ljava/lang/String;" } : Jvm.MethodName) ({ cls := "java/lang/StringBuilder", name := "toString", desc := "()Ljava/lang/String;" } : Jvm.MethodName)) ∈ lw_all := lw_g (lw_at lw_m3 42 rfl) rfl
theorem q659 : (Jvm.Cond.code ({ cls := "java/lang/StringBuilder", name := "toString", desc := "()Ljava/lang/String;" } : Jvm.MethodName) prog_35_method_42_code (1 : Nat) (Option.some (Jvm.ClassFile.FieldType.object "java/lang/String"))) ∈ lw_all := lw_g (lw_at lw_m3 43 rfl) rfl
theorem q660 : (Jvm.Cond.classLink "java/lang/StringBuilder" (18 : Nat) "java/lang/String") ∈ lw_all := lw_g (lw_at lw_m3 44 rfl) rfl
theorem q661 : (Jvm.Cond.methodLink "java/lang/StringBuilder" (137 : Nat) ({ cls := "java/lang/String", name := "<init>", desc := "(Ljava/lang/StringBuilder;)V" } : Jvm.MethodName)) ∈ lw_all := lw_g (lw_at lw_m3 45 rfl) rfl
theorem q671 : (Jvm.Cond.selects "java/lang/StringBuilder" ({ cls := "java/lang/AbstractStringBuilder", name := "getValue", desc := "()[B" } : Jvm.MethodName) ({ cls := "java/lang/AbstractStringBuilder", name := "getValue", desc := "()[B" } : Jvm.MethodName)) ∈ lw_all := lw_g (lw_at lw_m3 55 rfl) rfl
theorem q676 : (Jvm.Cond.selects "java/lang/StringBuilder" ({ cls := "java/lang/AbstractStringBuilder", name := "length", desc := "()I" } : Jvm.MethodName) ({ cls := "java/lang/StringBuilder", name := "length", desc := "()I" } : Jvm.MethodName)) ∈ lw_all := lw_g (lw_at lw_m3 60 rfl) rfl
theorem q677 : (Jvm.Cond.instanceMethod ({ cls := "java/lang/StringBuilder", name := "length", desc := "()I" } : Jvm.MethodName)) ∈ lw_all := lw_g (lw_at lw_m3 61 rfl) rfl
theorem q678 : (Jvm.Cond.code ({ cls := "java/lang/StringBuilder", name := "length", desc := "()I" } : Jvm.MethodName) prog_35_method_93_code (1 : Nat) (Option.some Jvm.ClassFile.FieldType.int)) ∈ lw_all := lw_g (lw_at lw_m3 62 rfl) rfl
theorem q679 : (Jvm.Cond.methodLink "java/lang/StringBuilder" (343 : Nat) ({ cls := "java/lang/AbstractStringBuilder", name := "length", desc := "()I" } : Jvm.MethodName)) ∈ lw_all := lw_g (lw_at lw_m3 63 rfl) rfl
theorem q905 : (Jvm.Cond.instanceMethod ({ cls := "java/lang/StringBuilder", name := "append", desc := "(C)Ljava/lang/StringBuilder;" } : Jvm.MethodName)) ∈ lw_all := lw_g (lw_at lw_m4 49 rfl) rfl
theorem q906 : (Jvm.Cond.selects "java/lang/StringBuilder" ({ cls := "java/lang/StringBuilder", name := "append", desc := "(C)Ljava/lang/StringBuilder;" } : Jvm.MethodName) ({ cls := "java/lang/StringBuilder", name := "append", desc := "(C)Ljava/lang/StringBuilder;" } : Jvm.MethodName)) ∈ lw_all := lw_g (lw_at lw_m4 50 rfl) rfl
theorem q907 : (Jvm.Cond.code ({ cls := "java/lang/StringBuilder", name := "append", desc := "(C)Ljava/lang/StringBuilder;" } : Jvm.MethodName) prog_35_method_14_code (2 : Nat) (Option.some (Jvm.ClassFile.FieldType.object "java/lang/StringBuilder"))) ∈ lw_all := lw_g (lw_at lw_m4 51 rfl) rfl
theorem q908 : (Jvm.Cond.methodLink "java/lang/StringBuilder" (50 : Nat) ({ cls := "java/lang/AbstractStringBuilder", name := "append", desc := "(C)Ljava/lang/AbstractStringBuilder;" } : Jvm.MethodName)) ∈ lw_all := lw_g (lw_at lw_m4 52 rfl) rfl
theorem q1157 : (Jvm.Cond.selects "java/lang/StringBuilder" ({ cls := "java/lang/Object", name := "getClass", desc := "()Ljava/lang/Class;" } : Jvm.MethodName) ({ cls := "java/lang/Object", name := "getClass", desc := "()Ljava/lang/Class;" } : Jvm.MethodName)) ∈ lw_all := lw_g (lw_at lw_m5 61 rfl) rfl
theorem q1327 : (Jvm.Cond.selects "java/lang/StringBuilder" ({ cls := "java/lang/Object", name := "equals", desc := "(Ljava/lang/Object;)Z" } : Jvm.MethodName) ({ cls := "java/lang/Object", name := "equals", desc := "(Ljava/lang/Object;)Z" } : Jvm.MethodName)) ∈ lw_all := lw_g (lw_at lw_m5 231 rfl) rfl
theorem q2597 : (Jvm.Cond.instanceMethod ({ cls := "java/lang/StringBuilder", name := "setLength", desc := "(I)V" } : Jvm.MethodName)) ∈ lw_all := lw_g (lw_at lw_m11 61 rfl) rfl
theorem q2598 : (Jvm.Cond.selects "java/lang/StringBuilder" ({ cls := "java/lang/StringBuilder", name := "setLength", desc := "(I)V" } : Jvm.MethodName) ({ cls := "java/lang/StringBuilder", name := "setLength", desc := "(I)V" } : Jvm.MethodName)) ∈ lw_all := lw_g (lw_at lw_m11 62 rfl) rfl
theorem q2599 : (Jvm.Cond.code ({ cls := "java/lang/StringBuilder", name := "setLength", desc := "(I)V" } : Jvm.MethodName) prog_35_method_89_code (2 : Nat) (Option.none : Option Jvm.ClassFile.FieldType)) ∈ lw_all := lw_g (lw_at lw_m11 63 rfl) rfl
theorem q2600 : (Jvm.Cond.methodLink "java/lang/StringBuilder" (333 : Nat) ({ cls := "java/lang/AbstractStringBuilder", name := "setLength", desc := "(I)V" } : Jvm.MethodName)) ∈ lw_all := lw_g (lw_at lw_m11 64 rfl) rfl
theorem q2651 : (Jvm.Cond.instanceMethod ({ cls := "java/lang/StringBuilder", name := "append", desc := "(J)Ljava/lang/StringBuilder;" } : Jvm.MethodName)) ∈ lw_all := lw_g (lw_at lw_m11 115 rfl) rfl
theorem q2652 : (Jvm.Cond.selects "java/lang/StringBuilder" ({ cls := "java/lang/StringBuilder", name := "append", desc := "(J)Ljava/lang/StringBuilder;" } : Jvm.MethodName) ({ cls := "java/lang/StringBuilder", name := "append", desc := "(J)Ljava/lang/StringBuilder;" } : Jvm.MethodName)) ∈ lw_all := lw_g (lw_at lw_m11 116 rfl) rfl
theorem q2653 : (Jvm.Cond.code ({ cls := "java/lang/StringBuilder", name := "append", desc := "(J)Ljava/lang/StringBuilder;" } : Jvm.MethodName) prog_35_method_16_code (3 : Nat) (Option.some (Jvm.ClassFile.FieldType.object "java/lang/StringBuilder"))) ∈ lw_all := lw_g (lw_at lw_m11 117 rfl) rfl
theorem q2654 : (Jvm.Cond.methodLink "java/lang/StringBuilder" (56 : Nat) ({ cls := "java/lang/AbstractStringBuilder", name := "append", desc := "(J)Ljava/lang/AbstractStringBuilder;" } : Jvm.MethodName)) ∈ lw_all := lw_g (lw_at lw_m11 118 rfl) rfl
theorem q2686 : (Jvm.Cond.instanceMethod ({ cls := "java/lang/StringBuilder", name := "charAt", desc := "(I)C" } : Jvm.MethodName)) ∈ lw_all := lw_g (lw_at lw_m11 150 rfl) rfl
theorem q2687 : (Jvm.Cond.selects "java/lang/StringBuilder" ({ cls := "java/lang/StringBuilder", name := "charAt", desc := "(I)C" } : Jvm.MethodName) ({ cls := "java/lang/StringBuilder", name := "charAt", desc := "(I)C" } : Jvm.MethodName)) ∈ lw_all := lw_g (lw_at lw_m11 151 rfl) rfl
theorem q2688 : (Jvm.Cond.code ({ cls := "java/lang/StringBuilder", name := "charAt", desc := "(I)C" } : Jvm.MethodName) prog_35_method_88_code (2 : Nat) (Option.some Jvm.ClassFile.FieldType.char)) ∈ lw_all := lw_g (lw_at lw_m11 152 rfl) rfl
theorem q2689 : (Jvm.Cond.methodLink "java/lang/StringBuilder" (329 : Nat) ({ cls := "java/lang/AbstractStringBuilder", name := "charAt", desc := "(I)C" } : Jvm.MethodName)) ∈ lw_all := lw_g (lw_at lw_m11 153 rfl) rfl
theorem q3657 : (Jvm.Cond.selects "java/lang/StringBuilder" ({ cls := "java/lang/StringBuilder", name := "length", desc := "()I" } : Jvm.MethodName) ({ cls := "java/lang/StringBuilder", name := "length", desc := "()I" } : Jvm.MethodName)) ∈ lw_all := lw_g (lw_at lw_m15 161 rfl) rfl
theorem q3666 : (Jvm.Cond.castable "java/lang/StringBuilder" "java/lang/Object") ∈ lw_tbl := lw_at lw_m15 170 rfl
theorem q142 : (Jvm.Cond.initialized "java/lang/String") ∈ lw_all := lw_g (lw_at lw_m1 6 rfl) rfl
theorem q233 : (Jvm.Cond.laysStatic "java/lang/String" "COMPACT_STRINGS" "Z") ∈ lw_tbl := lw_at lw_m1 97 rfl
theorem q244 : (Jvm.Cond.fieldLink "java/lang/String" (1048 : Nat) "java/lang/AbstractStringBuilder" "maybeLatin1" "Z") ∈ lw_all := lw_g (lw_at lw_m1 108 rfl) rfl
theorem q435 : (Jvm.Cond.instantiable "java/lang/String" (4 : Nat)) ∈ lw_all := lw_g (lw_at lw_m2 59 rfl) rfl
theorem q436 : (Jvm.Cond.laysFinal "java/lang/String" "java/lang/String" "value" "[B") ∈ lw_all := lw_g (lw_at lw_m2 60 rfl) rfl
theorem q437 : (Jvm.Cond.soleField "java/lang/String" "value") ∈ lw_all := lw_g (lw_at lw_m2 61 rfl) rfl
theorem q438 : (Jvm.Cond.laysFinal "java/lang/String" "java/lang/String" "coder" "B") ∈ lw_all := lw_g (lw_at lw_m2 62 rfl) rfl
theorem q439 : (Jvm.Cond.soleField "java/lang/String" "coder") ∈ lw_all := lw_g (lw_at lw_m2 63 rfl) rfl
theorem q572 : (Jvm.Cond.static ({ cls := "java/lang/String", name := "checkBoundsBeginEnd", desc := "(III)V" } : Jvm.MethodName)) ∈ lw_all := lw_g (lw_at lw_m2 196 rfl) rfl
theorem q573 : (Jvm.Cond.code ({ cls := "java/lang/String", name := "checkBoundsBeginEnd", desc := "(III)V" } : Jvm.MethodName) prog_34_method_158_code (3 : Nat) (Option.none : Option Jvm.ClassFile.FieldType)) ∈ lw_all := lw_g (lw_at lw_m2 197 rfl) rfl
theorem q574 : (Jvm.Cond.fieldLink "java/lang/String" (1053 : Nat) "jdk/internal/util/Preconditions" "SIOOBE_FORMATTER" "Ljava/util/function/BiFunction;") ∈ lw_all := lw_g (lw_at lw_m2 198 rfl) rfl
theorem q576 : (Jvm.Cond.methodLink "java/lang/String" (1062 : Nat) ({ cls := "jdk/internal/util/Preconditions", name := "checkFromToIndex", desc := "(IIILjava/util/function/BiFunction;)I" } : Jvm.MethodName)) ∈ lw_all := lw_g (lw_at lw_m2 200 rfl) rfl
theorem q589 : (Jvm.Cond.instanceMethod ({ cls := "java/lang/String", name := "length", desc := "()I" } : Jvm.MethodName)) ∈ lw_all := lw_g (lw_at lw_m2 213 rfl) rfl
theorem q590 : (Jvm.Cond.selects "java/lang/String" ({ cls := "java/lang/String", name := "length", desc := "()I" } : Jvm.MethodName) ({ cls := "java/lang/String", name := "length", desc := "()I" } : Jvm.MethodName)) ∈ lw_all := lw_g (lw_at lw_m2 214 rfl) rfl
theorem q591 : (Jvm.Cond.code ({ cls := "java/lang/String", name := "length", desc := "()I" } : Jvm.MethodName) prog_34_method_54_code (1 : Nat) (Option.some Jvm.ClassFile.FieldType.int)) ∈ lw_all := lw_g (lw_at lw_m2 215 rfl) rfl
theorem q592 : (Jvm.Cond.methodLink "java/lang/String" (335 : Nat) ({ cls := "java/lang/String", name := "coder", desc := "()B" } : Jvm.MethodName)) ∈ lw_all := lw_g (lw_at lw_m2 216 rfl) rfl
theorem q593 : (Jvm.Cond.instanceMethod ({ cls := "java/lang/String", name := "coder", desc := "()B" } : Jvm.MethodName)) ∈ lw_all := lw_g (lw_at lw_m2 217 rfl) rfl
theorem q594 : (Jvm.Cond.selects "java/lang/String" ({ cls := "java/lang/String", name := "coder", desc := "()B" } : Jvm.MethodName) ({ cls := "java/lang/String", name := "coder", desc := "()B" } : Jvm.MethodName)) ∈ lw_all := lw_g (lw_at lw_m2 218 rfl) rfl
theorem q595 : (Jvm.Cond.code ({ cls := "java/lang/String", name := "coder", desc := "()B" } : Jvm.MethodName) prog_34_method_152_code (1 : Nat) (Option.some Jvm.ClassFile.FieldType.byte)) ∈ lw_all := lw_g (lw_at lw_m2 219 rfl) rfl
theorem q596 : (Jvm.Cond.fieldLink "java/lang/String" (38 : Nat) "java/lang/String" "COMPACT_STRINGS" "Z") ∈ lw_all := lw_g (lw_at lw_m2 220 rfl) rfl
theorem q620 : (Jvm.Cond.static ({ cls := "java/lang/String", name := "checkBoundsOffCount", desc := "(III)I" } : Jvm.MethodName)) ∈ lw_all := lw_g (lw_at lw_m3 4 rfl) rfl
theorem q621 : (Jvm.Cond.code ({ cls := "java/lang/String", name := "checkBoundsOffCount", desc := "(III)I" } : Jvm.MethodName) prog_34_method_157_code (3 : Nat) (Option.some Jvm.ClassFile.FieldType.int)) ∈ lw_all := lw_g (lw_at lw_m3 5 rfl) rfl
theorem q622 : (Jvm.Cond.methodLink "java/lang/String" (1065 : Nat) ({ cls := "jdk/internal/util/Preconditions", name := "checkFromIndexSize", desc := "(IIILjava/util/function/BiFunction;)I" } : Jvm.MethodName)) ∈ lw_all := lw_g (lw_at lw_m3 6 rfl) rfl
theorem q626 : (Jvm.Cond.instanceMethod ({ cls := "java/lang/String", name := "getBytes", desc := "([BIB)V" } : Jvm.MethodName)) ∈ lw_all := lw_g (lw_at lw_m3 10 rfl) rfl
theorem q627 : (Jvm.Cond.selects "java/lang/String" ({ cls := "java/lang/String", name := "getBytes", desc := "([BIB)V" } : Jvm.MethodName) ({ cls := "java/lang/String", name := "getBytes", desc := "([BIB)V" } : Jvm.MethodName)) ∈ lw_all := lw_g (lw_at lw_m3 11 rfl) rfl
theorem q628 : (Jvm.Cond.code ({ cls := "java/lang/String", name := "getBytes", desc := "([BIB)V" } : Jvm.MethodName) prog_34_method_147_code (4 : Nat) (Option.none : Option Jvm.ClassFile.FieldType)) ∈ lw_all := lw_g (lw_at lw_m3 12 rfl) rfl
theorem q629 : (Jvm.Cond.methodLink "java/lang/String" (212 : Nat) ({ cls := "java/lang/System", name := "arraycopy", desc := "(Ljava/lang/Object;ILjava/lang/Object;II)V" } : Jvm.MethodName)) ∈ lw_all := lw_g (lw_at lw_m3 13 rfl) rfl
theorem q630 : (Jvm.Cond.methodLink "java/lang/String" (106 : Nat) ({ cls := "java/lang/StringLatin1", name := "inflate", desc := "([BI[BII)V" } : Jvm.MethodName)) ∈ lw_all := lw_g (lw_at lw_m3 14 rfl) rfl
theorem q662 : (Jvm.Cond.instanceMethod ({ cls := "java/lang/String", name := "<init>", desc := "(Ljava/lang/StringBuilder;)V" } : Jvm.MethodName)) ∈ lw_all := lw_g (lw_at lw_m3 46 rfl) rfl
theorem q663 : (Jvm.Cond.code ({ cls := "java/lang/String", name := "<init>", desc := "(Ljava/lang/StringBuilder;)V" } : Jvm.MethodName) prog_34_method_53_code (2 : Nat) (Option.none : Option Jvm.ClassFile.FieldType)) ∈ lw_all := lw_g (lw_at lw_m3 47 rfl) rfl
theorem q664 : (Jvm.Cond.methodLink "java/lang/String" (489 : Nat) ({ cls := "java/lang/String", name := "<init>", desc := "(Ljava/lang/AbstractStringBuilder;Ljava/lang/Void;)V" } : Jvm.MethodName)) ∈ lw_all := lw_g (lw_at lw_m3 48 rfl) rfl
theorem q665 : (Jvm.Cond.instanceMethod ({ cls := "java/lang/String", name := "<init>", desc := "(Ljava/lang/AbstractStringBuilder;Ljava/lang/Void;)V" } : Jvm.MethodName)) ∈ lw_all := lw_g (lw_at lw_m3 49 rfl) rfl
theorem q666 : (Jvm.Cond.code ({ cls := "java/lang/String", name := "<init>", desc := "(Ljava/lang/AbstractStringBuilder;Ljava/lang/Void;)V" } : Jvm.MethodName) prog_34_method_150_code (5 : Nat) (Option.none : Option Jvm.ClassFile.FieldType)) ∈ lw_all := lw_g (lw_at lw_m3 50 rfl) rfl
theorem q667 : (Jvm.Cond.methodLink "java/lang/String" (1 : Nat) ({ cls := "java/lang/Object", name := "<init>", desc := "()V" } : Jvm.MethodName)) ∈ lw_all := lw_g (lw_at lw_m3 51 rfl) rfl
theorem q668 : (Jvm.Cond.methodLink "java/lang/String" (552 : Nat) ({ cls := "java/lang/AbstractStringBuilder", name := "getValue", desc := "()[B" } : Jvm.MethodName)) ∈ lw_all := lw_g (lw_at lw_m3 52 rfl) rfl
theorem q673 : (Jvm.Cond.methodLink "java/lang/String" (549 : Nat) ({ cls := "java/lang/AbstractStringBuilder", name := "length", desc := "()I" } : Jvm.MethodName)) ∈ lw_all := lw_g (lw_at lw_m3 57 rfl) rfl
theorem q681 : (Jvm.Cond.methodLink "java/lang/String" (1047 : Nat) ({ cls := "java/lang/AbstractStringBuilder", name := "isLatin1", desc := "()Z" } : Jvm.MethodName)) ∈ lw_all := lw_g (lw_at lw_m3 65 rfl) rfl
theorem q682 : (Jvm.Cond.methodLink "java/lang/String" (54 : Nat) ({ cls := "java/util/Arrays", name := "copyOfRange", desc := "([BII)[B" } : Jvm.MethodName)) ∈ lw_all := lw_g (lw_at lw_m3 66 rfl) rfl
theorem q704 : (Jvm.Cond.methodLink "java/lang/String" (1051 : Nat) ({ cls := "java/lang/StringUTF16", name := "compress", desc := "([BII)[B" } : Jvm.MethodName)) ∈ lw_all := lw_g (lw_at lw_m3 88 rfl) rfl
theorem q714 : (Jvm.Cond.methodLink "java/lang/String" (47 : Nat) ({ cls := "java/lang/StringUTF16", name := "coderFromArrayLen", desc := "([BI)B" } : Jvm.MethodName)) ∈ lw_all := lw_g (lw_at lw_m3 98 rfl) rfl
theorem q717 : (Jvm.Cond.fieldLink "java/lang/String" (9 : Nat) "java/lang/String" "value" "[B") ∈ lw_all := lw_g (lw_at lw_m3 101 rfl) rfl
theorem q718 : (Jvm.Cond.fieldLink "java/lang/String" (15 : Nat) "java/lang/String" "coder" "B") ∈ lw_all := lw_g (lw_at lw_m3 102 rfl) rfl
theorem q719 : (Jvm.Cond.fieldLink "java/lang/String" (19 : Nat) "java/lang/String" "hash" "I") ∈ lw_all := lw_g (lw_at lw_m3 103 rfl) rfl
theorem q720 : (Jvm.Cond.fieldLink "java/lang/String" (23 : Nat) "java/lang/String" "hashIsZero" "Z") ∈ lw_all := lw_g (lw_at lw_m3 104 rfl) rfl
theorem q721 : (Jvm.Cond.lays "java/lang/String" "java/lang/String" "hash" "I") ∈ lw_all := lw_g (lw_at lw_m3 105 rfl) rfl
theorem q722 : (Jvm.Cond.soleField "java/lang/String" "hash") ∈ lw_all := lw_g (lw_at lw_m3 106 rfl) rfl
theorem q723 : (Jvm.Cond.lays "java/lang/String" "java/lang/String" "hashIsZero" "Z") ∈ lw_all := lw_g (lw_at lw_m3 107 rfl) rfl
theorem q724 : (Jvm.Cond.soleField "java/lang/String" "hashIsZero") ∈ lw_all := lw_g (lw_at lw_m3 108 rfl) rfl
theorem q725 : (Jvm.Cond.superclass "java/lang/String" "java/lang/Object") ∈ lw_all := lw_g (lw_at lw_m3 109 rfl) rfl
theorem q921 : (Jvm.Cond.static ({ cls := "java/lang/String", name := "checkIndex", desc := "(II)V" } : Jvm.MethodName)) ∈ lw_all := lw_g (lw_at lw_m4 65 rfl) rfl
theorem q922 : (Jvm.Cond.code ({ cls := "java/lang/String", name := "checkIndex", desc := "(II)V" } : Jvm.MethodName) prog_34_method_155_code (2 : Nat) (Option.none : Option Jvm.ClassFile.FieldType)) ∈ lw_all := lw_g (lw_at lw_m4 66 rfl) rfl
theorem q923 : (Jvm.Cond.methodLink "java/lang/String" (1059 : Nat) ({ cls := "jdk/internal/util/Preconditions", name := "checkIndex", desc := "(IILjava/util/function/BiFunction;)I" } : Jvm.MethodName)) ∈ lw_all := lw_g (lw_at lw_m4 67 rfl) rfl
theorem q949 : (Jvm.Cond.instanceMethod ({ cls := "java/lang/String", name := "equals", desc := "(Ljava/lang/Object;)Z" } : Jvm.MethodName)) ∈ lw_all := lw_g (lw_at lw_m4 93 rfl) rfl
theorem q950 : (Jvm.Cond.selects "java/lang/String" ({ cls := "java/lang/String", name := "equals", desc := "(Ljava/lang/Object;)Z" } : Jvm.MethodName) ({ cls := "java/lang/String", name := "equals", desc := "(Ljava/lang/Object;)Z" } : Jvm.MethodName)) ∈ lw_all := lw_g (lw_at lw_m4 94 rfl) rfl
theorem q951 : (Jvm.Cond.code ({ cls := "java/lang/String", name := "equals", desc := "(Ljava/lang/Object;)Z" } : Jvm.MethodName) prog_34_method_66_code (3 : Nat) (Option.some Jvm.ClassFile.FieldType.boolean)) ∈ lw_all := lw_g (lw_at lw_m4 95 rfl) rfl
theorem q952 : (Jvm.Cond.classLink "java/lang/String" (10 : Nat) "java/lang/String") ∈ lw_all := lw_g (lw_at lw_m4 96 rfl) rfl
theorem q953 : (Jvm.Cond.methodLink "java/lang/String" (541 : Nat) ({ cls := "java/lang/StringLatin1", name := "equals", desc := "([B[B)Z" } : Jvm.MethodName)) ∈ lw_all := lw_g (lw_at lw_m4 97 rfl) rfl
theorem q1009 : (Jvm.Cond.instanceMethod ({ cls := "java/lang/String", name := "hashCode", desc := "()I" } : Jvm.MethodName)) ∈ lw_all := lw_g (lw_at lw_m4 153 rfl) rfl
theorem q1010 : (Jvm.Cond.selects "java/lang/String" ({ cls := "java/lang/String", name := "hashCode", desc := "()I" } : Jvm.MethodName) ({ cls := "java/lang/String", name := "hashCode", desc := "()I" } : Jvm.MethodName)) ∈ lw_all := lw_g (lw_at lw_m4 154 rfl) rfl
theorem q1011 : (Jvm.Cond.code ({ cls := "java/lang/String", name := "hashCode", desc := "()I" } : Jvm.MethodName) prog_34_method_78_code (2 : Nat) (Option.some Jvm.ClassFile.FieldType.int)) ∈ lw_all := lw_g (lw_at lw_m4 155 rfl) rfl
theorem q1012 : (Jvm.Cond.methodLink "java/lang/String" (492 : Nat) ({ cls := "java/lang/String", name := "isLatin1", desc := "()Z" } : Jvm.MethodName)) ∈ lw_all := lw_g (lw_at lw_m4 156 rfl) rfl
theorem q1013 : (Jvm.Cond.instanceMethod ({ cls := "java/lang/String", name := "isLatin1", desc := "()Z" } : Jvm.MethodName)) ∈ lw_all := lw_g (lw_at lw_m4 157 rfl) rfl
theorem q1014 : (Jvm.Cond.selects "java/lang/String" ({ cls := "java/lang/String", name := "isLatin1", desc := "()Z" } : Jvm.MethodName) ({ cls := "java/lang/String", name := "isLatin1", desc := "()Z" } : Jvm.MethodName)) ∈ lw_all := lw_g (lw_at lw_m4 158 rfl) rfl
theorem q1015 : (Jvm.Cond.code ({ cls := "java/lang/String", name := "isLatin1", desc := "()Z" } : Jvm.MethodName) prog_34_method_154_code (1 : Nat) (Option.some Jvm.ClassFile.FieldType.boolean)) ∈ lw_all := lw_g (lw_at lw_m4 159 rfl) rfl
theorem q1016 : (Jvm.Cond.methodLink "java/lang/String" (628 : Nat) ({ cls := "java/lang/StringLatin1", name := "hashCode", desc := "([B)I" } : Jvm.MethodName)) ∈ lw_all := lw_g (lw_at lw_m4 160 rfl) rfl
theorem q1065 : (Jvm.Cond.methodLink "java/lang/String" (632 : Nat) ({ cls := "java/lang/StringUTF16", name := "hashCode", desc := "([B)I" } : Jvm.MethodName)) ∈ lw_all := lw_g (lw_at lw_m4 209 rfl) rfl
theorem q1156 : (Jvm.Cond.selects "java/lang/String" ({ cls := "java/lang/Object", name := "getClass", desc := "()Ljava/lang/Class;" } : Jvm.MethodName) ({ cls := "java/lang/Object", name := "getClass", desc := "()Ljava/lang/Class;" } : Jvm.MethodName)) ∈ lw_all := lw_g (lw_at lw_m5 60 rfl) rfl
theorem q1326 : (Jvm.Cond.selects "java/lang/String" ({ cls := "java/lang/Object", name := "equals", desc := "(Ljava/lang/Object;)Z" } : Jvm.MethodName) ({ cls := "java/lang/String", name := "equals", desc := "(Ljava/lang/Object;)Z" } : Jvm.MethodName)) ∈ lw_all := lw_g (lw_at lw_m5 230 rfl) rfl
theorem q1517 : (Jvm.Cond.instanceMethod ({ cls := "java/lang/String", name := "isEmpty", desc := "()Z" } : Jvm.MethodName)) ∈ lw_all := lw_g (lw_at lw_m6 181 rfl) rfl
theorem q1518 : (Jvm.Cond.selects "java/lang/String" ({ cls := "java/lang/String", name := "isEmpty", desc := "()Z" } : Jvm.MethodName) ({ cls := "java/lang/String", name := "isEmpty", desc := "()Z" } : Jvm.MethodName)) ∈ lw_all := lw_g (lw_at lw_m6 182 rfl) rfl
theorem q1519 : (Jvm.Cond.code ({ cls := "java/lang/String", name := "isEmpty", desc := "()Z" } : Jvm.MethodName) prog_34_method_55_code (1 : Nat) (Option.some Jvm.ClassFile.FieldType.boolean)) ∈ lw_all := lw_g (lw_at lw_m6 183 rfl) rfl
theorem q3072 : (Jvm.Cond.instanceMethod ({ cls := "java/lang/String", name := "charAt", desc := "(I)C" } : Jvm.MethodName)) ∈ lw_all := lw_g (lw_at lw_m13 56 rfl) rfl
theorem q3073 : (Jvm.Cond.selects "java/lang/String" ({ cls := "java/lang/String", name := "charAt", desc := "(I)C" } : Jvm.MethodName) ({ cls := "java/lang/String", name := "charAt", desc := "(I)C" } : Jvm.MethodName)) ∈ lw_all := lw_g (lw_at lw_m13 57 rfl) rfl
theorem q3074 : (Jvm.Cond.code ({ cls := "java/lang/String", name := "charAt", desc := "(I)C" } : Jvm.MethodName) prog_34_method_56_code (2 : Nat) (Option.some Jvm.ClassFile.FieldType.char)) ∈ lw_all := lw_g (lw_at lw_m13 58 rfl) rfl
theorem q3075 : (Jvm.Cond.methodLink "java/lang/String" (495 : Nat) ({ cls := "java/lang/StringLatin1", name := "charAt", desc := "([BI)C" } : Jvm.MethodName)) ∈ lw_all := lw_g (lw_at lw_m13 59 rfl) rfl
theorem q3079 : (Jvm.Cond.methodLink "java/lang/String" (498 : Nat) ({ cls := "java/lang/StringUTF16", name := "charAt", desc := "([BI)C" } : Jvm.MethodName)) ∈ lw_all := lw_g (lw_at lw_m13 63 rfl) rfl
theorem q3674 : (Jvm.Cond.castable "java/lang/String" "java/lang/Object") ∈ lw_tbl := lw_at lw_m15 178 rfl
theorem q143 : (Jvm.Cond.initialized "java/lang/StringUTF16") ∈ lw_all := lw_g (lw_at lw_m1 7 rfl) rfl
theorem q235 : (Jvm.Cond.static ({ cls := "java/lang/StringUTF16", name := "newBytesFor", desc := "(I)[B" } : Jvm.MethodName)) ∈ lw_all := lw_g (lw_at lw_m1 99 rfl) rfl
theorem q236 : (Jvm.Cond.code ({ cls := "java/lang/StringUTF16", name := "newBytesFor", desc := "(I)[B" } : Jvm.MethodName) prog_38_method_2_code (1 : Nat) (Option.some (Jvm.ClassFile.FieldType.array Jvm.ClassFile.FieldType.byte))) ∈ lw_all := lw_g (lw_at lw_m1 100 rfl) rfl
theorem q237 : (Jvm.Cond.methodLink "java/lang/StringUTF16" (11 : Nat) ({ cls := "java/lang/StringUTF16", name := "newBytesLength", desc := "(I)I" } : Jvm.MethodName)) ∈ lw_all := lw_g (lw_at lw_m1 101 rfl) rfl
theorem q238 : (Jvm.Cond.static ({ cls := "java/lang/StringUTF16", name := "newBytesLength", desc := "(I)I" } : Jvm.MethodName)) ∈ lw_all := lw_g (lw_at lw_m1 102 rfl) rfl
theorem q239 : (Jvm.Cond.code ({ cls := "java/lang/StringUTF16", name := "newBytesLength", desc := "(I)I" } : Jvm.MethodName) prog_38_method_3_code (1 : Nat) (Option.some Jvm.ClassFile.FieldType.int)) ∈ lw_all := lw_g (lw_at lw_m1 103 rfl) rfl
theorem q240 : (Jvm.Cond.constant "java/lang/StringUTF16" (20 : Nat) (1073741823 : Int32)) ∈ lw_all := lw_g (lw_at lw_m1 104 rfl) rfl
theorem q563 : (Jvm.Cond.static ({ cls := "java/lang/StringUTF16", name := "putCharsAt", desc := "([BICCCC)I" } : Jvm.MethodName)) ∈ lw_all := lw_g (lw_at lw_m2 187 rfl) rfl
theorem q564 : (Jvm.Cond.code ({ cls := "java/lang/StringUTF16", name := "putCharsAt", desc := "([BICCCC)I" } : Jvm.MethodName) prog_38_method_81_code (7 : Nat) (Option.some Jvm.ClassFile.FieldType.int)) ∈ lw_all := lw_g (lw_at lw_m2 188 rfl) rfl
theorem q565 : (Jvm.Cond.methodLink "java/lang/StringUTF16" (96 : Nat) ({ cls := "java/lang/StringUTF16", name := "checkBoundsBeginEnd", desc := "(II[B)V" } : Jvm.MethodName)) ∈ lw_all := lw_g (lw_at lw_m2 189 rfl) rfl
theorem q566 : (Jvm.Cond.static ({ cls := "java/lang/StringUTF16", name := "checkBoundsBeginEnd", desc := "(II[B)V" } : Jvm.MethodName)) ∈ lw_all := lw_g (lw_at lw_m2 190 rfl) rfl
theorem q567 : (Jvm.Cond.code ({ cls := "java/lang/StringUTF16", name := "checkBoundsBeginEnd", desc := "(II[B)V" } : Jvm.MethodName) prog_38_method_93_code (3 : Nat) (Option.none : Option Jvm.ClassFile.FieldType)) ∈ lw_all := lw_g (lw_at lw_m2 191 rfl) rfl
theorem q568 : (Jvm.Cond.methodLink "java/lang/StringUTF16" (48 : Nat) ({ cls := "java/lang/StringUTF16", name := "length", desc := "([B)I" } : Jvm.MethodName)) ∈ lw_all := lw_g (lw_at lw_m2 192 rfl) rfl
theorem q569 : (Jvm.Cond.static ({ cls := "java/lang/StringUTF16", name := "length", desc := "([B)I" } : Jvm.MethodName)) ∈ lw_all := lw_g (lw_at lw_m2 193 rfl) rfl
theorem q570 : (Jvm.Cond.code ({ cls := "java/lang/StringUTF16", name := "length", desc := "([B)I" } : Jvm.MethodName) prog_38_method_6_code (1 : Nat) (Option.some Jvm.ClassFile.FieldType.int)) ∈ lw_all := lw_g (lw_at lw_m2 194 rfl) rfl
theorem q571 : (Jvm.Cond.methodLink "java/lang/StringUTF16" (241 : Nat) ({ cls := "java/lang/String", name := "checkBoundsBeginEnd", desc := "(III)V" } : Jvm.MethodName)) ∈ lw_all := lw_g (lw_at lw_m2 195 rfl) rfl
theorem q579 : (Jvm.Cond.methodLink "java/lang/StringUTF16" (111 : Nat) ({ cls := "java/lang/StringUTF16", name := "putChar", desc := "([BII)V" } : Jvm.MethodName)) ∈ lw_all := lw_g (lw_at lw_m2 203 rfl) rfl
theorem q580 : (Jvm.Cond.static ({ cls := "java/lang/StringUTF16", name := "putChar", desc := "([BII)V" } : Jvm.MethodName)) ∈ lw_all := lw_g (lw_at lw_m2 204 rfl) rfl
theorem q581 : (Jvm.Cond.code ({ cls := "java/lang/StringUTF16", name := "putChar", desc := "([BII)V" } : Jvm.MethodName) prog_38_method_4_code (3 : Nat) (Option.none : Option Jvm.ClassFile.FieldType)) ∈ lw_all := lw_g (lw_at lw_m2 205 rfl) rfl
theorem q582 : (Jvm.Cond.fieldLink "java/lang/StringUTF16" (44 : Nat) "java/lang/StringUTF16" "$assertionsDisabled" "Z") ∈ lw_all := lw_g (lw_at lw_m2 206 rfl) rfl
theorem q583 : (Jvm.Cond.laysStatic "java/lang/StringUTF16" "$assertionsDisabled" "Z") ∈ lw_tbl := lw_at lw_m2 207 rfl
theorem q584 : (Jvm.Cond.fieldLink "java/lang/StringUTF16" (59 : Nat) "java/lang/StringUTF16" "HI_BYTE_SHIFT" "I") ∈ lw_all := lw_g (lw_at lw_m2 208 rfl) rfl
theorem q585 : (Jvm.Cond.laysStatic "java/lang/StringUTF16" "HI_BYTE_SHIFT" "I") ∈ lw_tbl := lw_at lw_m2 209 rfl
theorem q586 : (Jvm.Cond.fieldLink "java/lang/StringUTF16" (63 : Nat) "java/lang/StringUTF16" "LO_BYTE_SHIFT" "I") ∈ lw_all := lw_g (lw_at lw_m2 210 rfl) rfl
theorem q587 : (Jvm.Cond.laysStatic "java/lang/StringUTF16" "LO_BYTE_SHIFT" "I") ∈ lw_tbl := lw_at lw_m2 211 rfl
theorem q614 : (Jvm.Cond.static ({ cls := "java/lang/StringUTF16", name := "inflate", desc := "([BI[BII)V" } : Jvm.MethodName)) ∈ lw_all := lw_g (lw_at lw_m2 238 rfl) rfl
theorem q615 : (Jvm.Cond.code ({ cls := "java/lang/StringUTF16", name := "inflate", desc := "([BI[BII)V" } : Jvm.MethodName) prog_38_method_86_code (6 : Nat) (Option.none : Option Jvm.ClassFile.FieldType)) ∈ lw_all := lw_g (lw_at lw_m2 239 rfl) rfl
theorem q616 : (Jvm.Cond.methodLink "java/lang/StringUTF16" (173 : Nat) ({ cls := "java/lang/StringUTF16", name := "checkBoundsOffCount", desc := "(II[B)V" } : Jvm.MethodName)) ∈ lw_all := lw_g (lw_at lw_m3 0 rfl) rfl
theorem q617 : (Jvm.Cond.static ({ cls := "java/lang/StringUTF16", name := "checkBoundsOffCount", desc := "(II[B)V" } : Jvm.MethodName)) ∈ lw_all := lw_g (lw_at lw_m3 1 rfl) rfl
theorem q618 : (Jvm.Cond.code ({ cls := "java/lang/StringUTF16", name := "checkBoundsOffCount", desc := "(II[B)V" } : Jvm.MethodName) prog_38_method_94_code (3 : Nat) (Option.none : Option Jvm.ClassFile.FieldType)) ∈ lw_all := lw_g (lw_at lw_m3 2 rfl) rfl
theorem q619 : (Jvm.Cond.methodLink "java/lang/StringUTF16" (419 : Nat) ({ cls := "java/lang/String", name := "checkBoundsOffCount", desc := "(III)I" } : Jvm.MethodName)) ∈ lw_all := lw_g (lw_at lw_m3 3 rfl) rfl
theorem q649 : (Jvm.Cond.static ({ cls := "java/lang/StringUTF16", name := "getChars", desc := "(III[B)I" } : Jvm.MethodName)) ∈ lw_all := lw_g (lw_at lw_m3 33 rfl) rfl
theorem q650 : (Jvm.Cond.code ({ cls := "java/lang/StringUTF16", name := "getChars", desc := "(III[B)I" } : Jvm.MethodName) prog_38_method_77_code (5 : Nat) (Option.some Jvm.ClassFile.FieldType.int)) ∈ lw_all := lw_g (lw_at lw_m3 34 rfl) rfl
theorem q651 : (Jvm.Cond.methodLink "java/lang/StringUTF16" (393 : Nat) ({ cls := "java/lang/StringUTF16", name := "getChars", desc := "(II[B)I" } : Jvm.MethodName)) ∈ lw_all := lw_g (lw_at lw_m3 35 rfl) rfl
theorem q652 : (Jvm.Cond.static ({ cls := "java/lang/StringUTF16", name := "getChars", desc := "(II[B)I" } : Jvm.MethodName)) ∈ lw_all := lw_g (lw_at lw_m3 36 rfl) rfl
theorem q653 : (Jvm.Cond.code ({ cls := "java/lang/StringUTF16", name := "getChars", desc := "(II[B)I" } : Jvm.MethodName) prog_38_method_89_code (7 : Nat) (Option.some Jvm.ClassFile.FieldType.int)) ∈ lw_all := lw_g (lw_at lw_m3 37 rfl) rfl
theorem q654 : (Jvm.Cond.fieldLink "java/lang/StringUTF16" (403 : Nat) "java/lang/Integer" "DigitOnes" "[B") ∈ lw_all := lw_g (lw_at lw_m3 38 rfl) rfl
theorem q655 : (Jvm.Cond.fieldLink "java/lang/StringUTF16" (407 : Nat) "java/lang/Integer" "DigitTens" "[B") ∈ lw_all := lw_g (lw_at lw_m3 39 rfl) rfl
theorem q705 : (Jvm.Cond.static ({ cls := "java/lang/StringUTF16", name := "compress", desc := "([BII)[B" } : Jvm.MethodName)) ∈ lw_all := lw_g (lw_at lw_m3 89 rfl) rfl
theorem q706 : (Jvm.Cond.code ({ cls := "java/lang/StringUTF16", name := "compress", desc := "([BII)[B" } : Jvm.MethodName) prog_38_method_17_code (6 : Nat) (Option.some (Jvm.ClassFile.FieldType.array Jvm.ClassFile.FieldType.byte))) ∈ lw_all := lw_g (lw_at lw_m3 90 rfl) rfl
theorem q707 : (Jvm.Cond.methodLink "java/lang/StringUTF16" (123 : Nat) ({ cls := "java/lang/StringUTF16", name := "compress", desc := "([BI[BII)I" } : Jvm.MethodName)) ∈ lw_all := lw_g (lw_at lw_m3 91 rfl) rfl
theorem q708 : (Jvm.Cond.static ({ cls := "java/lang/StringUTF16", name := "compress", desc := "([BI[BII)I" } : Jvm.MethodName)) ∈ lw_all := lw_g (lw_at lw_m3 92 rfl) rfl
theorem q709 : (Jvm.Cond.code ({ cls := "java/lang/StringUTF16", name := "compress", desc := "([BI[BII)I" } : Jvm.MethodName) prog_38_method_22_code (7 : Nat) (Option.some Jvm.ClassFile.FieldType.int)) ∈ lw_all := lw_g (lw_at lw_m3 93 rfl) rfl
theorem q710 : (Jvm.Cond.methodLink "java/lang/StringUTF16" (71 : Nat) ({ cls := "java/lang/StringUTF16", name := "getChar", desc := "([BI)C" } : Jvm.MethodName)) ∈ lw_all := lw_g (lw_at lw_m3 94 rfl) rfl
theorem q711 : (Jvm.Cond.static ({ cls := "java/lang/StringUTF16", name := "getChar", desc := "([BI)C" } : Jvm.MethodName)) ∈ lw_all := lw_g (lw_at lw_m3 95 rfl) rfl
theorem q712 : (Jvm.Cond.code ({ cls := "java/lang/StringUTF16", name := "getChar", desc := "([BI)C" } : Jvm.MethodName) prog_38_method_5_code (2 : Nat) (Option.some Jvm.ClassFile.FieldType.char)) ∈ lw_all := lw_g (lw_at lw_m3 96 rfl) rfl
theorem q713 : (Jvm.Cond.methodLink "java/lang/StringUTF16" (126 : Nat) ({ cls := "java/util/Arrays", name := "copyOfRange", desc := "([BII)[B" } : Jvm.MethodName)) ∈ lw_all := lw_g (lw_at lw_m3 97 rfl) rfl
theorem q715 : (Jvm.Cond.static ({ cls := "java/lang/StringUTF16", name := "coderFromArrayLen", desc := "([BI)B" } : Jvm.MethodName)) ∈ lw_all := lw_g (lw_at lw_m3 99 rfl) rfl
theorem q716 : (Jvm.Cond.code ({ cls := "java/lang/StringUTF16", name := "coderFromArrayLen", desc := "([BI)B" } : Jvm.MethodName) prog_38_method_15_code (2 : Nat) (Option.some Jvm.ClassFile.FieldType.byte)) ∈ lw_all := lw_g (lw_at lw_m3 100 rfl) rfl
theorem q915 : (Jvm.Cond.static ({ cls := "java/lang/StringUTF16", name := "putCharSB", desc := "([BII)V" } : Jvm.MethodName)) ∈ lw_all := lw_g (lw_at lw_m4 59 rfl) rfl
theorem q916 : (Jvm.Cond.code ({ cls := "java/lang/StringUTF16", name := "putCharSB", desc := "([BII)V" } : Jvm.MethodName) prog_38_method_71_code (3 : Nat) (Option.none : Option Jvm.ClassFile.FieldType)) ∈ lw_all := lw_g (lw_at lw_m4 60 rfl) rfl
theorem q917 : (Jvm.Cond.methodLink "java/lang/StringUTF16" (67 : Nat) ({ cls := "java/lang/StringUTF16", name := "checkIndex", desc := "(I[B)V" } : Jvm.MethodName)) ∈ lw_all := lw_g (lw_at lw_m4 61 rfl) rfl
theorem q918 : (Jvm.Cond.static ({ cls := "java/lang/StringUTF16", name := "checkIndex", desc := "(I[B)V" } : Jvm.MethodName)) ∈ lw_all := lw_g (lw_at lw_m4 62 rfl) rfl
theorem q919 : (Jvm.Cond.code ({ cls := "java/lang/StringUTF16", name := "checkIndex", desc := "(I[B)V" } : Jvm.MethodName) prog_38_method_91_code (2 : Nat) (Option.none : Option Jvm.ClassFile.FieldType)) ∈ lw_all := lw_g (lw_at lw_m4 63 rfl) rfl
theorem q920 : (Jvm.Cond.methodLink "java/lang/StringUTF16" (414 : Nat) ({ cls := "java/lang/String", name := "checkIndex", desc := "(II)V" } : Jvm.MethodName)) ∈ lw_all := lw_g (lw_at lw_m4 64 rfl) rfl
theorem q1066 : (Jvm.Cond.static ({ cls := "java/lang/StringUTF16", name := "hashCode", desc := "([B)I" } : Jvm.MethodName)) ∈ lw_all := lw_g (lw_at lw_m4 210 rfl) rfl
theorem q1067 : (Jvm.Cond.code ({ cls := "java/lang/StringUTF16", name := "hashCode", desc := "([B)I" } : Jvm.MethodName) prog_38_method_39_code (1 : Nat) (Option.some Jvm.ClassFile.FieldType.int)) ∈ lw_all := lw_g (lw_at lw_m4 211 rfl) rfl
theorem q1068 : (Jvm.Cond.methodLink "java/lang/StringUTF16" (220 : Nat) ({ cls := "jdk/internal/util/ArraysSupport", name := "vectorizedHashCode", desc := "(Ljava/lang/Object;IIII)I" } : Jvm.MethodName)) ∈ lw_all := lw_g (lw_at lw_m4 212 rfl) rfl
theorem q2645 : (Jvm.Cond.static ({ cls := "java/lang/StringUTF16", name := "fillNull", desc := "([BII)V" } : Jvm.MethodName)) ∈ lw_all := lw_g (lw_at lw_m11 109 rfl) rfl
theorem q2646 : (Jvm.Cond.code ({ cls := "java/lang/StringUTF16", name := "fillNull", desc := "([BII)V" } : Jvm.MethodName) prog_38_method_70_code (3 : Nat) (Option.none : Option Jvm.ClassFile.FieldType)) ∈ lw_all := lw_g (lw_at lw_m11 110 rfl) rfl
theorem q2647 : (Jvm.Cond.methodLink "java/lang/StringUTF16" (380 : Nat) ({ cls := "java/util/Arrays", name := "fill", desc := "([BIIB)V" } : Jvm.MethodName)) ∈ lw_all := lw_g (lw_at lw_m11 111 rfl) rfl
theorem q2670 : (Jvm.Cond.static ({ cls := "java/lang/StringUTF16", name := "getChars", desc := "(JII[B)I" } : Jvm.MethodName)) ∈ lw_all := lw_g (lw_at lw_m11 134 rfl) rfl
theorem q2671 : (Jvm.Cond.code ({ cls := "java/lang/StringUTF16", name := "getChars", desc := "(JII[B)I" } : Jvm.MethodName) prog_38_method_78_code (6 : Nat) (Option.some Jvm.ClassFile.FieldType.int)) ∈ lw_all := lw_g (lw_at lw_m11 135 rfl) rfl
theorem q2672 : (Jvm.Cond.methodLink "java/lang/StringUTF16" (396 : Nat) ({ cls := "java/lang/StringUTF16", name := "getChars", desc := "(JI[B)I" } : Jvm.MethodName)) ∈ lw_all := lw_g (lw_at lw_m11 136 rfl) rfl
theorem q2673 : (Jvm.Cond.static ({ cls := "java/lang/StringUTF16", name := "getChars", desc := "(JI[B)I" } : Jvm.MethodName)) ∈ lw_all := lw_g (lw_at lw_m11 137 rfl) rfl
theorem q2674 : (Jvm.Cond.code ({ cls := "java/lang/StringUTF16", name := "getChars", desc := "(JI[B)I" } : Jvm.MethodName) prog_38_method_90_code (11 : Nat) (Option.some Jvm.ClassFile.FieldType.int)) ∈ lw_all := lw_g (lw_at lw_m11 138 rfl) rfl
theorem q2675 : (Jvm.Cond.constantLong "java/lang/StringUTF16" (410 : Nat) (-2147483648 : Int64)) ∈ lw_all := lw_g (lw_at lw_m11 139 rfl) rfl
theorem q2676 : (Jvm.Cond.constantLong "java/lang/StringUTF16" (412 : Nat) (100 : Int64)) ∈ lw_all := lw_g (lw_at lw_m11 140 rfl) rfl
theorem q3080 : (Jvm.Cond.static ({ cls := "java/lang/StringUTF16", name := "charAt", desc := "([BI)C" } : Jvm.MethodName)) ∈ lw_all := lw_g (lw_at lw_m13 64 rfl) rfl
theorem q3081 : (Jvm.Cond.code ({ cls := "java/lang/StringUTF16", name := "charAt", desc := "([BI)C" } : Jvm.MethodName) prog_38_method_83_code (2 : Nat) (Option.some Jvm.ClassFile.FieldType.char)) ∈ lw_all := lw_g (lw_at lw_m13 65 rfl) rfl
theorem q145 : (Jvm.Cond.initialized "java/lang/Throwable") ∈ lw_all := lw_g (lw_at lw_m1 9 rfl) rfl
theorem q375 : (Jvm.Cond.instanceMethod ({ cls := "java/lang/Throwable", name := "<init>", desc := "(Ljava/lang/String;)V" } : Jvm.MethodName)) ∈ lw_all := lw_g (lw_at lw_m1 239 rfl) rfl
theorem q376 : (Jvm.Cond.code ({ cls := "java/lang/Throwable", name := "<init>", desc := "(Ljava/lang/String;)V" } : Jvm.MethodName) prog_41_method_2_code (2 : Nat) (Option.none : Option Jvm.ClassFile.FieldType)) ∈ lw_all := lw_g (lw_at lw_m2 0 rfl) rfl
theorem q377 : (Jvm.Cond.methodLink "java/lang/Throwable" (1 : Nat) ({ cls := "java/lang/Object", name := "<init>", desc := "()V" } : Jvm.MethodName)) ∈ lw_all := lw_g (lw_at lw_m2 1 rfl) rfl
theorem q378 : (Jvm.Cond.fieldLink "java/lang/Throwable" (13 : Nat) "java/lang/Throwable" "UNASSIGNED_STACK" "[Ljava/lang/StackTraceElement;") ∈ lw_all := lw_g (lw_at lw_m2 2 rfl) rfl
theorem q379 : (Jvm.Cond.laysStatic "java/lang/Throwable" "UNASSIGNED_STACK" "[Ljava/lang/StackTraceElement;") ∈ lw_tbl := lw_at lw_m2 3 rfl
theorem q380 : (Jvm.Cond.fieldLink "java/lang/Throwable" (20 : Nat) "java/lang/Throwable" "SUPPRESSED_SENTINEL" "Ljava/util/List;") ∈ lw_all := lw_g (lw_at lw_m2 4 rfl) rfl
theorem q381 : (Jvm.Cond.laysStatic "java/lang/Throwable" "SUPPRESSED_SENTINEL" "Ljava/util/List;") ∈ lw_tbl := lw_at lw_m2 5 rfl
theorem q382 : (Jvm.Cond.methodLink "java/lang/Throwable" (27 : Nat) ({ cls := "java/lang/Throwable", name := "fillInStackTrace", desc := "()Ljava/lang/Throwable;" } : Jvm.MethodName)) ∈ lw_all := lw_g (lw_at lw_m2 6 rfl) rfl
theorem q383 : (Jvm.Cond.instanceMethod ({ cls := "java/lang/Throwable", name := "fillInStackTrace", desc := "()Ljava/lang/Throwable;" } : Jvm.MethodName)) ∈ lw_all := lw_g (lw_at lw_m2 7 rfl) rfl
theorem q384 : (Jvm.Cond.sameMethod "java/lang/Throwable" "java/lang/Throwable" "fillInStackTrace" "()Ljava/lang/Throwable;") ∈ lw_all := lw_g (lw_at lw_m2 8 rfl) rfl
theorem q392 : (Jvm.Cond.codeSync ({ cls := "java/lang/Throwable", name := "fillInStackTrace", desc := "()Ljava/lang/Throwable;" } : Jvm.MethodName) prog_41_method_18_code (1 : Nat) (Option.some (Jvm.ClassFile.FieldType.object "java/lang/Throwable"))) ∈ lw_all := lw_g (lw_at lw_m2 16 rfl) rfl
theorem q393 : (Jvm.Cond.methodLink "java/lang/Throwable" (202 : Nat) ({ cls := "java/lang/Throwable", name := "fillInStackTrace", desc := "(I)Ljava/lang/Throwable;" } : Jvm.MethodName)) ∈ lw_all := lw_g (lw_at lw_m2 17 rfl) rfl
theorem q394 : (Jvm.Cond.privateMethod ({ cls := "java/lang/Throwable", name := "fillInStackTrace", desc := "(I)Ljava/lang/Throwable;" } : Jvm.MethodName)) ∈ lw_tbl := lw_at lw_m2 18 rfl
theorem q395 : (Jvm.Cond.instanceMethod ({ cls := "java/lang/Throwable", name := "fillInStackTrace", desc := "(I)Ljava/lang/Throwable;" } : Jvm.MethodName)) ∈ lw_all := lw_g (lw_at lw_m2 19 rfl) rfl
theorem q396 : (Jvm.Cond.instantiable "java/lang/Throwable" (6 : Nat)) ∈ lw_all := lw_g (lw_at lw_m2 20 rfl) rfl
theorem q397 : (Jvm.Cond.native ({ cls := "java/lang/Throwable", name := "fillInStackTrace", desc := "(I)Ljava/lang/Throwable;" } : Jvm.MethodName)) ∈ lw_all := lw_g (lw_at lw_m2 21 rfl) rfl
theorem q398 : (Jvm.Cond.fieldLink "java/lang/Throwable" (198 : Nat) "java/lang/Throwable" "backtrace" "Ljava/lang/Object;") ∈ lw_all := lw_g (lw_at lw_m2 22 rfl) rfl
theorem q399 : (Jvm.Cond.fieldLink "java/lang/Throwable" (31 : Nat) "java/lang/Throwable" "detailMessage" "Ljava/lang/String;") ∈ lw_all := lw_g (lw_at lw_m2 23 rfl) rfl
theorem q400 : (Jvm.Cond.fieldLink "java/lang/Throwable" (7 : Nat) "java/lang/Throwable" "cause" "Ljava/lang/Throwable;") ∈ lw_all := lw_g (lw_at lw_m2 24 rfl) rfl
theorem q401 : (Jvm.Cond.fieldLink "java/lang/Throwable" (17 : Nat) "java/lang/Throwable" "stackTrace" "[Ljava/lang/StackTraceElement;") ∈ lw_all := lw_g (lw_at lw_m2 25 rfl) rfl
theorem q402 : (Jvm.Cond.fieldLink "java/lang/Throwable" (24 : Nat) "java/lang/Throwable" "suppressedExceptions" "Ljava/util/List;") ∈ lw_all := lw_g (lw_at lw_m2 26 rfl) rfl
theorem q404 : (Jvm.Cond.soleField "java/lang/Throwable" "backtrace") ∈ lw_all := lw_g (lw_at lw_m2 28 rfl) rfl
theorem q406 : (Jvm.Cond.soleField "java/lang/Throwable" "detailMessage") ∈ lw_all := lw_g (lw_at lw_m2 30 rfl) rfl
theorem q408 : (Jvm.Cond.soleField "java/lang/Throwable" "cause") ∈ lw_all := lw_g (lw_at lw_m2 32 rfl) rfl
theorem q410 : (Jvm.Cond.soleField "java/lang/Throwable" "stackTrace") ∈ lw_all := lw_g (lw_at lw_m2 34 rfl) rfl
theorem q412 : (Jvm.Cond.soleField "java/lang/Throwable" "depth") ∈ lw_all := lw_g (lw_at lw_m2 36 rfl) rfl
theorem q414 : (Jvm.Cond.soleField "java/lang/Throwable" "suppressedExceptions") ∈ lw_all := lw_g (lw_at lw_m2 38 rfl) rfl
theorem q423 : (Jvm.Cond.declares ({ cls := "java/lang/Throwable", name := "<init>", desc := "()V" } : Jvm.MethodName)) ∈ lw_tbl := lw_at lw_m2 47 rfl
theorem q424 : (Jvm.Cond.declares ({ cls := "java/lang/Throwable", name := "<init>", desc := "(Ljava/lang/String;)V" } : Jvm.MethodName)) ∈ lw_tbl := lw_at lw_m2 48 rfl
theorem q426 : (Jvm.Cond.lays "java/lang/Throwable" "java/lang/Throwable" "cause" "Ljava/lang/Throwable;") ∈ lw_all := lw_g (lw_at lw_m2 50 rfl) rfl
theorem q427 : (Jvm.Cond.lays "java/lang/Throwable" "java/lang/Throwable" "stackTrace" "[Ljava/lang/StackTraceElement;") ∈ lw_all := lw_g (lw_at lw_m2 51 rfl) rfl
theorem q428 : (Jvm.Cond.lays "java/lang/Throwable" "java/lang/Throwable" "suppressedExceptions" "Ljava/util/List;") ∈ lw_all := lw_g (lw_at lw_m2 52 rfl) rfl
theorem q429 : (Jvm.Cond.lays "java/lang/Throwable" "java/lang/Throwable" "detailMessage" "Ljava/lang/String;") ∈ lw_all := lw_g (lw_at lw_m2 53 rfl) rfl
theorem q430 : (Jvm.Cond.lays "java/lang/Throwable" "java/lang/Throwable" "backtrace" "Ljava/lang/Object;") ∈ lw_all := lw_g (lw_at lw_m2 54 rfl) rfl
theorem q431 : (Jvm.Cond.fieldLink "java/lang/Throwable" (198 : Nat) "java/lang/Throwable" "backtrace" "Ljava/lang/Object;") ∈ lw_all := lw_g (lw_at lw_m2 55 rfl) rfl
theorem q432 : (Jvm.Cond.superclass "java/lang/Throwable" "java/lang/Object") ∈ lw_all := lw_g (lw_at lw_m2 56 rfl) rfl
theorem q433 : (Jvm.Cond.instanceMethod ({ cls := "java/lang/Throwable", name := "<init>", desc := "()V" } : Jvm.MethodName)) ∈ lw_all := lw_g (lw_at lw_m2 57 rfl) rfl
theorem q434 : (Jvm.Cond.code ({ cls := "java/lang/Throwable", name := "<init>", desc := "()V" } : Jvm.MethodName) prog_41_method_1_code (1 : Nat) (Option.none : Option Jvm.ClassFile.FieldType)) ∈ lw_all := lw_g (lw_at lw_m2 58 rfl) rfl
theorem q976 : (Jvm.Cond.instanceMethod ({ cls := "java/lang/Throwable", name := "<init>", desc := "(Ljava/lang/String;Ljava/lang/Throwable;ZZ)V" } : Jvm.MethodName)) ∈ lw_all := lw_g (lw_at lw_m4 120 rfl) rfl
theorem q977 : (Jvm.Cond.code ({ cls := "java/lang/Throwable", name := "<init>", desc := "(Ljava/lang/String;Ljava/lang/Throwable;ZZ)V" } : Jvm.MethodName) prog_41_method_5_code (5 : Nat) (Option.none : Option Jvm.ClassFile.FieldType)) ∈ lw_all := lw_g (lw_at lw_m4 121 rfl) rfl
theorem q2237 : (Jvm.Cond.instanceMethod ({ cls := "java/lang/Throwable", name := "<init>", desc := "(Ljava/lang/Throwable;)V" } : Jvm.MethodName)) ∈ lw_all := lw_g (lw_at lw_m9 181 rfl) rfl
theorem q2238 : (Jvm.Cond.code ({ cls := "java/lang/Throwable", name := "<init>", desc := "(Ljava/lang/Throwable;)V" } : Jvm.MethodName) prog_41_method_4_code (2 : Nat) (Option.none : Option Jvm.ClassFile.FieldType)) ∈ lw_all := lw_g (lw_at lw_m9 182 rfl) rfl
theorem q2239 : (Jvm.Cond.methodLink "java/lang/Throwable" (35 : Nat) ({ cls := "java/lang/Throwable", name := "toString", desc := "()Ljava/lang/String;" } : Jvm.MethodName)) ∈ lw_all := lw_g (lw_at lw_m9 183 rfl) rfl
theorem q2240 : (Jvm.Cond.instanceMethod ({ cls := "java/lang/Throwable", name := "toString", desc := "()Ljava/lang/String;" } : Jvm.MethodName)) ∈ lw_all := lw_g (lw_at lw_m9 184 rfl) rfl
theorem q2241 : (Jvm.Cond.sameMethod "java/lang/Throwable" "java/lang/Throwable" "toString" "()Ljava/lang/String;") ∈ lw_all := lw_g (lw_at lw_m9 185 rfl) rfl
theorem q2249 : (Jvm.Cond.code ({ cls := "java/lang/Throwable", name := "toString", desc := "()Ljava/lang/String;" } : Jvm.MethodName) prog_41_method_11_code (3 : Nat) (Option.some (Jvm.ClassFile.FieldType.object "java/lang/String"))) ∈ lw_all := lw_g (lw_at lw_m9 193 rfl) rfl
theorem q2250 : (Jvm.Cond.methodLink "java/lang/Throwable" (69 : Nat) ({ cls := "java/lang/Object", name := "getClass", desc := "()Ljava/lang/Class;" } : Jvm.MethodName)) ∈ lw_all := lw_g (lw_at lw_m9 194 rfl) rfl
theorem q2251 : (Jvm.Cond.methodLink "java/lang/Throwable" (78 : Nat) ({ cls := "java/lang/Throwable", name := "getLocalizedMessage", desc := "()Ljava/lang/String;" } : Jvm.MethodName)) ∈ lw_all := lw_g (lw_at lw_m9 195 rfl) rfl
theorem q2252 : (Jvm.Cond.instanceMethod ({ cls := "java/lang/Throwable", name := "getLocalizedMessage", desc := "()Ljava/lang/String;" } : Jvm.MethodName)) ∈ lw_all := lw_g (lw_at lw_m9 196 rfl) rfl
theorem q2253 : (Jvm.Cond.sameMethod "java/lang/Throwable" "java/lang/Throwable" "getLocalizedMessage" "()Ljava/lang/String;") ∈ lw_all := lw_g (lw_at lw_m9 197 rfl) rfl
theorem q2261 : (Jvm.Cond.code ({ cls := "java/lang/Throwable", name := "getLocalizedMessage", desc := "()Ljava/lang/String;" } : Jvm.MethodName) prog_41_method_7_code (1 : Nat) (Option.some (Jvm.ClassFile.FieldType.object "java/lang/String"))) ∈ lw_all := lw_g (lw_at lw_m9 205 rfl) rfl
theorem q2262 : (Jvm.Cond.methodLink "java/lang/Throwable" (39 : Nat) ({ cls := "java/lang/Throwable", name := "getMessage", desc := "()Ljava/lang/String;" } : Jvm.MethodName)) ∈ lw_all := lw_g (lw_at lw_m9 206 rfl) rfl
theorem q2263 : (Jvm.Cond.instanceMethod ({ cls := "java/lang/Throwable", name := "getMessage", desc := "()Ljava/lang/String;" } : Jvm.MethodName)) ∈ lw_all := lw_g (lw_at lw_m9 207 rfl) rfl
theorem q2264 : (Jvm.Cond.sameMethod "java/lang/Throwable" "java/lang/Throwable" "getMessage" "()Ljava/lang/String;") ∈ lw_all := lw_g (lw_at lw_m9 208 rfl) rfl
theorem q2272 : (Jvm.Cond.code ({ cls := "java/lang/Throwable", name := "getMessage", desc := "()Ljava/lang/String;" } : Jvm.MethodName) prog_41_method_6_code (1 : Nat) (Option.some (Jvm.ClassFile.FieldType.object "java/lang/String"))) ∈ lw_all := lw_g (lw_at lw_m9 216 rfl) rfl
theorem q2273 : (Jvm.Cond.classLink "java/lang/Throwable" (44 : Nat) "java/lang/StringBuilder") ∈ lw_all := lw_g (lw_at lw_m9 217 rfl) rfl
theorem q2274 : (Jvm.Cond.methodLink "java/lang/Throwable" (46 : Nat) ({ cls := "java/lang/StringBuilder", name := "<init>", desc := "()V" } : Jvm.MethodName)) ∈ lw_all := lw_g (lw_at lw_m9 218 rfl) rfl
theorem q2275 : (Jvm.Cond.methodLink "java/lang/Throwable" (49 : Nat) ({ cls := "java/lang/StringBuilder", name := "append", desc := "(Ljava/lang/String;)Ljava/lang/StringBuilder;" } : Jvm.MethodName)) ∈ lw_all := lw_g (lw_at lw_m9 219 rfl) rfl
theorem q2276 : (Jvm.Cond.stringRef "java/lang/Throwable" (81 : Nat) ": ") ∈ lw_tbl := lw_at lw_m9 220 rfl
theorem q2277 : (Jvm.Cond.methodLink "java/lang/Throwable" (60 : Nat) ({ cls := "java/lang/StringBuilder", name := "toString", desc := "()Ljava/lang/String;" } : Jvm.MethodName)) ∈ lw_all := lw_g (lw_at lw_m9 221 rfl) rfl
theorem q3642 : (Jvm.Cond.sameMethod "java/lang/Throwable" "java/lang/Throwable" "fillInStackTrace" "(I)Ljava/lang/Throwable;") ∈ lw_all := lw_g (lw_at lw_m15 146 rfl) rfl
theorem q3692 : (Jvm.Cond.castable "java/lang/Throwable" "java/lang/Object") ∈ lw_tbl := lw_at lw_m15 196 rfl
theorem q146 : (Jvm.Cond.initialized "java/lang/Exception") ∈ lw_all := lw_g (lw_at lw_m1 10 rfl) rfl
theorem q372 : (Jvm.Cond.instanceMethod ({ cls := "java/lang/Exception", name := "<init>", desc := "(Ljava/lang/String;)V" } : Jvm.MethodName)) ∈ lw_all := lw_g (lw_at lw_m1 236 rfl) rfl
theorem q373 : (Jvm.Cond.code ({ cls := "java/lang/Exception", name := "<init>", desc := "(Ljava/lang/String;)V" } : Jvm.MethodName) prog_23_method_2_code (2 : Nat) (Option.none : Option Jvm.ClassFile.FieldType)) ∈ lw_all := lw_g (lw_at lw_m1 237 rfl) rfl
theorem q374 : (Jvm.Cond.methodLink "java/lang/Exception" (7 : Nat) ({ cls := "java/lang/Throwable", name := "<init>", desc := "(Ljava/lang/String;)V" } : Jvm.MethodName)) ∈ lw_all := lw_g (lw_at lw_m1 238 rfl) rfl
theorem q421 : (Jvm.Cond.declares ({ cls := "java/lang/Exception", name := "<init>", desc := "()V" } : Jvm.MethodName)) ∈ lw_tbl := lw_at lw_m2 45 rfl
theorem q422 : (Jvm.Cond.declares ({ cls := "java/lang/Exception", name := "<init>", desc := "(Ljava/lang/String;)V" } : Jvm.MethodName)) ∈ lw_tbl := lw_at lw_m2 46 rfl
theorem q468 : (Jvm.Cond.instanceMethod ({ cls := "java/lang/Exception", name := "<init>", desc := "()V" } : Jvm.MethodName)) ∈ lw_all := lw_g (lw_at lw_m2 92 rfl) rfl
theorem q469 : (Jvm.Cond.code ({ cls := "java/lang/Exception", name := "<init>", desc := "()V" } : Jvm.MethodName) prog_23_method_1_code (1 : Nat) (Option.none : Option Jvm.ClassFile.FieldType)) ∈ lw_all := lw_g (lw_at lw_m2 93 rfl) rfl
theorem q470 : (Jvm.Cond.methodLink "java/lang/Exception" (1 : Nat) ({ cls := "java/lang/Throwable", name := "<init>", desc := "()V" } : Jvm.MethodName)) ∈ lw_all := lw_g (lw_at lw_m2 94 rfl) rfl
theorem q973 : (Jvm.Cond.instanceMethod ({ cls := "java/lang/Exception", name := "<init>", desc := "(Ljava/lang/String;Ljava/lang/Throwable;ZZ)V" } : Jvm.MethodName)) ∈ lw_all := lw_g (lw_at lw_m4 117 rfl) rfl
theorem q974 : (Jvm.Cond.code ({ cls := "java/lang/Exception", name := "<init>", desc := "(Ljava/lang/String;Ljava/lang/Throwable;ZZ)V" } : Jvm.MethodName) prog_23_method_5_code (5 : Nat) (Option.none : Option Jvm.ClassFile.FieldType)) ∈ lw_all := lw_g (lw_at lw_m4 118 rfl) rfl
theorem q975 : (Jvm.Cond.methodLink "java/lang/Exception" (16 : Nat) ({ cls := "java/lang/Throwable", name := "<init>", desc := "(Ljava/lang/String;Ljava/lang/Throwable;ZZ)V" } : Jvm.MethodName)) ∈ lw_all := lw_g (lw_at lw_m4 119 rfl) rfl
theorem q2234 : (Jvm.Cond.instanceMethod ({ cls := "java/lang/Exception", name := "<init>", desc := "(Ljava/lang/Throwable;)V" } : Jvm.MethodName)) ∈ lw_all := lw_g (lw_at lw_m9 178 rfl) rfl
theorem q2235 : (Jvm.Cond.code ({ cls := "java/lang/Exception", name := "<init>", desc := "(Ljava/lang/Throwable;)V" } : Jvm.MethodName) prog_23_method_4_code (2 : Nat) (Option.none : Option Jvm.ClassFile.FieldType)) ∈ lw_all := lw_g (lw_at lw_m9 179 rfl) rfl
theorem q2236 : (Jvm.Cond.methodLink "java/lang/Exception" (13 : Nat) ({ cls := "java/lang/Throwable", name := "<init>", desc := "(Ljava/lang/Throwable;)V" } : Jvm.MethodName)) ∈ lw_all := lw_g (lw_at lw_m9 180 rfl) rfl
theorem q147 : (Jvm.Cond.initialized "java/lang/RuntimeException") ∈ lw_all := lw_g (lw_at lw_m1 11 rfl) rfl
theorem q369 : (Jvm.Cond.instanceMethod ({ cls := "java/lang/RuntimeException", name := "<init>", desc := "(Ljava/lang/String;)V" } : Jvm.MethodName)) ∈ lw_all := lw_g (lw_at lw_m1 233 rfl) rfl
theorem q370 : (Jvm.Cond.code ({ cls := "java/lang/RuntimeException", name := "<init>", desc := "(Ljava/lang/String;)V" } : Jvm.MethodName) prog_33_method_2_code (2 : Nat) (Option.none : Option Jvm.ClassFile.FieldType)) ∈ lw_all := lw_g (lw_at lw_m1 234 rfl) rfl
theorem q371 : (Jvm.Cond.methodLink "java/lang/RuntimeException" (7 : Nat) ({ cls := "java/lang/Exception", name := "<init>", desc := "(Ljava/lang/String;)V" } : Jvm.MethodName)) ∈ lw_all := lw_g (lw_at lw_m1 235 rfl) rfl
theorem q419 : (Jvm.Cond.declares ({ cls := "java/lang/RuntimeException", name := "<init>", desc := "()V" } : Jvm.MethodName)) ∈ lw_tbl := lw_at lw_m2 43 rfl
theorem q420 : (Jvm.Cond.declares ({ cls := "java/lang/RuntimeException", name := "<init>", desc := "(Ljava/lang/String;)V" } : Jvm.MethodName)) ∈ lw_tbl := lw_at lw_m2 44 rfl
theorem q465 : (Jvm.Cond.instanceMethod ({ cls := "java/lang/RuntimeException", name := "<init>", desc := "()V" } : Jvm.MethodName)) ∈ lw_all := lw_g (lw_at lw_m2 89 rfl) rfl
theorem q466 : (Jvm.Cond.code ({ cls := "java/lang/RuntimeException", name := "<init>", desc := "()V" } : Jvm.MethodName) prog_33_method_1_code (1 : Nat) (Option.none : Option Jvm.ClassFile.FieldType)) ∈ lw_all := lw_g (lw_at lw_m2 90 rfl) rfl
theorem q467 : (Jvm.Cond.methodLink "java/lang/RuntimeException" (1 : Nat) ({ cls := "java/lang/Exception", name := "<init>", desc := "()V" } : Jvm.MethodName)) ∈ lw_all := lw_g (lw_at lw_m2 91 rfl) rfl
theorem q2231 : (Jvm.Cond.instanceMethod ({ cls := "java/lang/RuntimeException", name := "<init>", desc := "(Ljava/lang/Throwable;)V" } : Jvm.MethodName)) ∈ lw_all := lw_g (lw_at lw_m9 175 rfl) rfl
theorem q2232 : (Jvm.Cond.code ({ cls := "java/lang/RuntimeException", name := "<init>", desc := "(Ljava/lang/Throwable;)V" } : Jvm.MethodName) prog_33_method_4_code (2 : Nat) (Option.none : Option Jvm.ClassFile.FieldType)) ∈ lw_all := lw_g (lw_at lw_m9 176 rfl) rfl
theorem q2233 : (Jvm.Cond.methodLink "java/lang/RuntimeException" (13 : Nat) ({ cls := "java/lang/Exception", name := "<init>", desc := "(Ljava/lang/Throwable;)V" } : Jvm.MethodName)) ∈ lw_all := lw_g (lw_at lw_m9 177 rfl) rfl
theorem q148 : (Jvm.Cond.initialized "java/lang/IndexOutOfBoundsException") ∈ lw_all := lw_g (lw_at lw_m1 12 rfl) rfl
theorem q366 : (Jvm.Cond.instanceMethod ({ cls := "java/lang/IndexOutOfBoundsException", name := "<init>", desc := "(Ljava/lang/String;)V" } : Jvm.MethodName)) ∈ lw_all := lw_g (lw_at lw_m1 230 rfl) rfl
theorem q367 : (Jvm.Cond.code ({ cls := "java/lang/IndexOutOfBoundsException", name := "<init>", desc := "(Ljava/lang/String;)V" } : Jvm.MethodName) prog_26_method_2_code (2 : Nat) (Option.none : Option Jvm.ClassFile.FieldType)) ∈ lw_all := lw_g (lw_at lw_m1 231 rfl) rfl
theorem q368 : (Jvm.Cond.methodLink "java/lang/IndexOutOfBoundsException" (7 : Nat) ({ cls := "java/lang/RuntimeException", name := "<init>", desc := "(Ljava/lang/String;)V" } : Jvm.MethodName)) ∈ lw_all := lw_g (lw_at lw_m1 232 rfl) rfl
theorem q389 : (Jvm.Cond.selects "java/lang/IndexOutOfBoundsException" ({ cls := "java/lang/Throwable", name := "fillInStackTrace", desc := "()Ljava/lang/Throwable;" } : Jvm.MethodName) ({ cls := "java/lang/Throwable", name := "fillInStackTrace", desc := "()Ljava/lang/Throwable;" } : Jvm.MethodName)) ∈ lw_all := lw_g (lw_at lw_m2 13 rfl) rfl
theorem q417 : (Jvm.Cond.declares ({ cls := "java/lang/IndexOutOfBoundsException", name := "<init>", desc := "()V" } : Jvm.MethodName)) ∈ lw_tbl := lw_at lw_m2 41 rfl
theorem q418 : (Jvm.Cond.declares ({ cls := "java/lang/IndexOutOfBoundsException", name := "<init>", desc := "(Ljava/lang/String;)V" } : Jvm.MethodName)) ∈ lw_tbl := lw_at lw_m2 42 rfl
theorem q453 : (Jvm.Cond.instantiable "java/lang/IndexOutOfBoundsException" (6 : Nat)) ∈ lw_all := lw_g (lw_at lw_m2 77 rfl) rfl
theorem q454 : (Jvm.Cond.castable "java/lang/IndexOutOfBoundsException" "java/lang/IndexOutOfBoundsException") ∈ lw_tbl := lw_at lw_m2 78 rfl
theorem q455 : (Jvm.Cond.selects "java/lang/IndexOutOfBoundsException" ({ cls := "java/lang/Throwable", name := "fillInStackTrace", desc := "(I)Ljava/lang/Throwable;" } : Jvm.MethodName) ({ cls := "java/lang/Throwable", name := "fillInStackTrace", desc := "(I)Ljava/lang/Throwable;" } : Jvm.MethodName)) ∈ lw_all := lw_g (lw_at lw_m2 79 rfl) rfl
theorem q456 : (Jvm.Cond.lays "java/lang/IndexOutOfBoundsException" "java/lang/Throwable" "cause" "Ljava/lang/Throwable;") ∈ lw_all := lw_g (lw_at lw_m2 80 rfl) rfl
theorem q457 : (Jvm.Cond.lays "java/lang/IndexOutOfBoundsException" "java/lang/Throwable" "stackTrace" "[Ljava/lang/StackTraceElement;") ∈ lw_all := lw_g (lw_at lw_m2 81 rfl) rfl
theorem q458 : (Jvm.Cond.lays "java/lang/IndexOutOfBoundsException" "java/lang/Throwable" "suppressedExceptions" "Ljava/util/List;") ∈ lw_all := lw_g (lw_at lw_m2 82 rfl) rfl
theorem q459 : (Jvm.Cond.lays "java/lang/IndexOutOfBoundsException" "java/lang/Throwable" "detailMessage" "Ljava/lang/String;") ∈ lw_all := lw_g (lw_at lw_m2 83 rfl) rfl
theorem q460 : (Jvm.Cond.lays "java/lang/IndexOutOfBoundsException" "java/lang/Throwable" "backtrace" "Ljava/lang/Object;") ∈ lw_all := lw_g (lw_at lw_m2 84 rfl) rfl
theorem q462 : (Jvm.Cond.instanceMethod ({ cls := "java/lang/IndexOutOfBoundsException", name := "<init>", desc := "()V" } : Jvm.MethodName)) ∈ lw_all := lw_g (lw_at lw_m2 86 rfl) rfl
theorem q463 : (Jvm.Cond.code ({ cls := "java/lang/IndexOutOfBoundsException", name := "<init>", desc := "()V" } : Jvm.MethodName) prog_26_method_1_code (1 : Nat) (Option.none : Option Jvm.ClassFile.FieldType)) ∈ lw_all := lw_g (lw_at lw_m2 87 rfl) rfl
theorem q464 : (Jvm.Cond.methodLink "java/lang/IndexOutOfBoundsException" (1 : Nat) ({ cls := "java/lang/RuntimeException", name := "<init>", desc := "()V" } : Jvm.MethodName)) ∈ lw_all := lw_g (lw_at lw_m2 88 rfl) rfl
theorem q471 : (Jvm.Cond.lays "java/lang/IndexOutOfBoundsException" "java/lang/Throwable" "depth" "I") ∈ lw_all := lw_g (lw_at lw_m2 95 rfl) rfl
theorem q472 : (Jvm.Cond.superclass "java/lang/IndexOutOfBoundsException" "java/lang/RuntimeException") ∈ lw_all := lw_g (lw_at lw_m2 96 rfl) rfl
theorem q1154 : (Jvm.Cond.selects "java/lang/IndexOutOfBoundsException" ({ cls := "java/lang/Object", name := "getClass", desc := "()Ljava/lang/Class;" } : Jvm.MethodName) ({ cls := "java/lang/Object", name := "getClass", desc := "()Ljava/lang/Class;" } : Jvm.MethodName)) ∈ lw_all := lw_g (lw_at lw_m5 58 rfl) rfl
theorem q1317 : (Jvm.Cond.selects "java/lang/IndexOutOfBoundsException" ({ cls := "java/lang/Object", name := "equals", desc := "(Ljava/lang/Object;)Z" } : Jvm.MethodName) ({ cls := "java/lang/Object", name := "equals", desc := "(Ljava/lang/Object;)Z" } : Jvm.MethodName)) ∈ lw_all := lw_g (lw_at lw_m5 221 rfl) rfl
theorem q2246 : (Jvm.Cond.selects "java/lang/IndexOutOfBoundsException" ({ cls := "java/lang/Throwable", name := "toString", desc := "()Ljava/lang/String;" } : Jvm.MethodName) ({ cls := "java/lang/Throwable", name := "toString", desc := "()Ljava/lang/String;" } : Jvm.MethodName)) ∈ lw_all := lw_g (lw_at lw_m9 190 rfl) rfl
theorem q2258 : (Jvm.Cond.selects "java/lang/IndexOutOfBoundsException" ({ cls := "java/lang/Throwable", name := "getLocalizedMessage", desc := "()Ljava/lang/String;" } : Jvm.MethodName) ({ cls := "java/lang/Throwable", name := "getLocalizedMessage", desc := "()Ljava/lang/String;" } : Jvm.MethodName)) ∈ lw_all := lw_g (lw_at lw_m9 202 rfl) rfl
theorem q2269 : (Jvm.Cond.selects "java/lang/IndexOutOfBoundsException" ({ cls := "java/lang/Throwable", name := "getMessage", desc := "()Ljava/lang/String;" } : Jvm.MethodName) ({ cls := "java/lang/Throwable", name := "getMessage", desc := "()Ljava/lang/String;" } : Jvm.MethodName)) ∈ lw_all := lw_g (lw_at lw_m9 213 rfl) rfl
theorem q3669 : (Jvm.Cond.castable "java/lang/IndexOutOfBoundsException" "java/lang/Object") ∈ lw_tbl := lw_at lw_m15 173 rfl
theorem q149 : (Jvm.Cond.initialized "java/lang/ArrayIndexOutOfBoundsException") ∈ lw_all := lw_g (lw_at lw_m1 13 rfl) rfl
theorem q362 : (Jvm.Cond.instantiable "java/lang/ArrayIndexOutOfBoundsException" (6 : Nat)) ∈ lw_all := lw_g (lw_at lw_m1 226 rfl) rfl
theorem q363 : (Jvm.Cond.instanceMethod ({ cls := "java/lang/ArrayIndexOutOfBoundsException", name := "<init>", desc := "(Ljava/lang/String;)V" } : Jvm.MethodName)) ∈ lw_all := lw_g (lw_at lw_m1 227 rfl) rfl
theorem q364 : (Jvm.Cond.code ({ cls := "java/lang/ArrayIndexOutOfBoundsException", name := "<init>", desc := "(Ljava/lang/String;)V" } : Jvm.MethodName) prog_19_method_2_code (2 : Nat) (Option.none : Option Jvm.ClassFile.FieldType)) ∈ lw_all := lw_g (lw_at lw_m1 228 rfl) rfl
theorem q365 : (Jvm.Cond.methodLink "java/lang/ArrayIndexOutOfBoundsException" (7 : Nat) ({ cls := "java/lang/IndexOutOfBoundsException", name := "<init>", desc := "(Ljava/lang/String;)V" } : Jvm.MethodName)) ∈ lw_all := lw_g (lw_at lw_m1 229 rfl) rfl
theorem q386 : (Jvm.Cond.selects "java/lang/ArrayIndexOutOfBoundsException" ({ cls := "java/lang/Throwable", name := "fillInStackTrace", desc := "()Ljava/lang/Throwable;" } : Jvm.MethodName) ({ cls := "java/lang/Throwable", name := "fillInStackTrace", desc := "()Ljava/lang/Throwable;" } : Jvm.MethodName)) ∈ lw_all := lw_g (lw_at lw_m2 10 rfl) rfl
theorem q403 : (Jvm.Cond.lays "java/lang/ArrayIndexOutOfBoundsException" "java/lang/Throwable" "backtrace" "Ljava/lang/Object;") ∈ lw_all := lw_g (lw_at lw_m2 27 rfl) rfl
theorem q405 : (Jvm.Cond.lays "java/lang/ArrayIndexOutOfBoundsException" "java/lang/Throwable" "detailMessage" "Ljava/lang/String;") ∈ lw_all := lw_g (lw_at lw_m2 29 rfl) rfl
theorem q407 : (Jvm.Cond.lays "java/lang/ArrayIndexOutOfBoundsException" "java/lang/Throwable" "cause" "Ljava/lang/Throwable;") ∈ lw_all := lw_g (lw_at lw_m2 31 rfl) rfl
theorem q409 : (Jvm.Cond.lays "java/lang/ArrayIndexOutOfBoundsException" "java/lang/Throwable" "stackTrace" "[Ljava/lang/StackTraceElement;") ∈ lw_all := lw_g (lw_at lw_m2 33 rfl) rfl
theorem q411 : (Jvm.Cond.lays "java/lang/ArrayIndexOutOfBoundsException" "java/lang/Throwable" "depth" "I") ∈ lw_all := lw_g (lw_at lw_m2 35 rfl) rfl
theorem q413 : (Jvm.Cond.lays "java/lang/ArrayIndexOutOfBoundsException" "java/lang/Throwable" "suppressedExceptions" "Ljava/util/List;") ∈ lw_all := lw_g (lw_at lw_m2 37 rfl) rfl
theorem q415 : (Jvm.Cond.superclass "java/lang/ArrayIndexOutOfBoundsException" "java/lang/IndexOutOfBoundsException") ∈ lw_all := lw_g (lw_at lw_m2 39 rfl) rfl
theorem q416 : (Jvm.Cond.castable "java/lang/ArrayIndexOutOfBoundsException" "java/lang/ArrayIndexOutOfBoundsException") ∈ lw_tbl := lw_at lw_m2 40 rfl
theorem q425 : (Jvm.Cond.selects "java/lang/ArrayIndexOutOfBoundsException" ({ cls := "java/lang/Throwable", name := "fillInStackTrace", desc := "(I)Ljava/lang/Throwable;" } : Jvm.MethodName) ({ cls := "java/lang/Throwable", name := "fillInStackTrace", desc := "(I)Ljava/lang/Throwable;" } : Jvm.MethodName)) ∈ lw_all := lw_g (lw_at lw_m2 49 rfl) rfl
theorem q1151 : (Jvm.Cond.selects "java/lang/ArrayIndexOutOfBoundsException" ({ cls := "java/lang/Object", name := "getClass", desc := "()Ljava/lang/Class;" } : Jvm.MethodName) ({ cls := "java/lang/Object", name := "getClass", desc := "()Ljava/lang/Class;" } : Jvm.MethodName)) ∈ lw_all := lw_g (lw_at lw_m5 55 rfl) rfl
theorem q1314 : (Jvm.Cond.selects "java/lang/ArrayIndexOutOfBoundsException" ({ cls := "java/lang/Object", name := "equals", desc := "(Ljava/lang/Object;)Z" } : Jvm.MethodName) ({ cls := "java/lang/Object", name := "equals", desc := "(Ljava/lang/Object;)Z" } : Jvm.MethodName)) ∈ lw_all := lw_g (lw_at lw_m5 218 rfl) rfl
theorem q2243 : (Jvm.Cond.selects "java/lang/ArrayIndexOutOfBoundsException" ({ cls := "java/lang/Throwable", name := "toString", desc := "()Ljava/lang/String;" } : Jvm.MethodName) ({ cls := "java/lang/Throwable", name := "toString", desc := "()Ljava/lang/String;" } : Jvm.MethodName)) ∈ lw_all := lw_g (lw_at lw_m9 187 rfl) rfl
theorem q2255 : (Jvm.Cond.selects "java/lang/ArrayIndexOutOfBoundsException" ({ cls := "java/lang/Throwable", name := "getLocalizedMessage", desc := "()Ljava/lang/String;" } : Jvm.MethodName) ({ cls := "java/lang/Throwable", name := "getLocalizedMessage", desc := "()Ljava/lang/String;" } : Jvm.MethodName)) ∈ lw_all := lw_g (lw_at lw_m9 199 rfl) rfl
theorem q2266 : (Jvm.Cond.selects "java/lang/ArrayIndexOutOfBoundsException" ({ cls := "java/lang/Throwable", name := "getMessage", desc := "()Ljava/lang/String;" } : Jvm.MethodName) ({ cls := "java/lang/Throwable", name := "getMessage", desc := "()Ljava/lang/String;" } : Jvm.MethodName)) ∈ lw_all := lw_g (lw_at lw_m9 210 rfl) rfl
theorem q2636 : (Jvm.Cond.instanceMethod ({ cls := "java/lang/ArrayIndexOutOfBoundsException", name := "<init>", desc := "(I)V" } : Jvm.MethodName)) ∈ lw_all := lw_g (lw_at lw_m11 100 rfl) rfl
theorem q2637 : (Jvm.Cond.code ({ cls := "java/lang/ArrayIndexOutOfBoundsException", name := "<init>", desc := "(I)V" } : Jvm.MethodName) prog_19_method_3_code (2 : Nat) (Option.none : Option Jvm.ClassFile.FieldType)) ∈ lw_all := lw_g (lw_at lw_m11 101 rfl) rfl
theorem q2638 : (Jvm.Cond.classLink "java/lang/ArrayIndexOutOfBoundsException" (10 : Nat) "java/lang/StringBuilder") ∈ lw_all := lw_g (lw_at lw_m11 102 rfl) rfl
theorem q2639 : (Jvm.Cond.methodLink "java/lang/ArrayIndexOutOfBoundsException" (12 : Nat) ({ cls := "java/lang/StringBuilder", name := "<init>", desc := "()V" } : Jvm.MethodName)) ∈ lw_all := lw_g (lw_at lw_m11 103 rfl) rfl
theorem q2640 : (Jvm.Cond.stringRef "java/lang/ArrayIndexOutOfBoundsException" (13 : Nat) "Array index out of range: ") ∈ lw_tbl := lw_at lw_m11 104 rfl
theorem q2641 : (Jvm.Cond.methodLink "java/lang/ArrayIndexOutOfBoundsException" (15 : Nat) ({ cls := "java/lang/StringBuilder", name := "append", desc := "(Ljava/lang/String;)Ljava/lang/StringBuilder;" } : Jvm.MethodName)) ∈ lw_all := lw_g (lw_at lw_m11 105 rfl) rfl
theorem q2642 : (Jvm.Cond.methodLink "java/lang/ArrayIndexOutOfBoundsException" (19 : Nat) ({ cls := "java/lang/StringBuilder", name := "append", desc := "(I)Ljava/lang/StringBuilder;" } : Jvm.MethodName)) ∈ lw_all := lw_g (lw_at lw_m11 106 rfl) rfl
theorem q2643 : (Jvm.Cond.methodLink "java/lang/ArrayIndexOutOfBoundsException" (22 : Nat) ({ cls := "java/lang/StringBuilder", name := "toString", desc := "()Ljava/lang/String;" } : Jvm.MethodName)) ∈ lw_all := lw_g (lw_at lw_m11 107 rfl) rfl
theorem q3660 : (Jvm.Cond.castable "java/lang/ArrayIndexOutOfBoundsException" "java/lang/IndexOutOfBoundsException") ∈ lw_tbl := lw_at lw_m15 164 rfl
theorem q3668 : (Jvm.Cond.castable "java/lang/ArrayIndexOutOfBoundsException" "java/lang/Object") ∈ lw_tbl := lw_at lw_m15 172 rfl
theorem q153 : (Jvm.Cond.initialized "java/util/AbstractList") ∈ lw_all := lw_g (lw_at lw_m1 17 rfl) rfl
theorem q493 : (Jvm.Cond.instanceMethod ({ cls := "java/util/AbstractList", name := "<init>", desc := "()V" } : Jvm.MethodName)) ∈ lw_all := lw_g (lw_at lw_m2 117 rfl) rfl
theorem q494 : (Jvm.Cond.code ({ cls := "java/util/AbstractList", name := "<init>", desc := "()V" } : Jvm.MethodName) prog_45_method_1_code (1 : Nat) (Option.none : Option Jvm.ClassFile.FieldType)) ∈ lw_all := lw_g (lw_at lw_m2 118 rfl) rfl
theorem q495 : (Jvm.Cond.methodLink "java/util/AbstractList" (1 : Nat) ({ cls := "java/util/AbstractCollection", name := "<init>", desc := "()V" } : Jvm.MethodName)) ∈ lw_all := lw_g (lw_at lw_m2 119 rfl) rfl
theorem q731 : (Jvm.Cond.fieldLink "java/util/AbstractList" (7 : Nat) "java/util/AbstractList" "modCount" "I") ∈ lw_all := lw_g (lw_at lw_m3 115 rfl) rfl
theorem q744 : (Jvm.Cond.soleField "java/util/AbstractList" "modCount") ∈ lw_all := lw_g (lw_at lw_m3 128 rfl) rfl
theorem q2089 : (Jvm.Cond.declares ({ cls := "java/util/AbstractList", name := "listIterator", desc := "()Ljava/util/ListIterator;" } : Jvm.MethodName)) ∈ lw_tbl := lw_at lw_m9 33 rfl
theorem q2091 : (Jvm.Cond.instanceMethod ({ cls := "java/util/AbstractList", name := "listIterator", desc := "()Ljava/util/ListIterator;" } : Jvm.MethodName)) ∈ lw_all := lw_g (lw_at lw_m9 35 rfl) rfl
theorem q2092 : (Jvm.Cond.code ({ cls := "java/util/AbstractList", name := "listIterator", desc := "()Ljava/util/ListIterator;" } : Jvm.MethodName) prog_45_method_12_code (1 : Nat) (Option.some (Jvm.ClassFile.FieldType.object "java/util/ListIterator"))) ∈ lw_all := lw_g (lw_at lw_m9 36 rfl) rfl
theorem q2093 : (Jvm.Cond.methodLink "java/util/AbstractList" (47 : Nat) ({ cls := "java/util/AbstractList", name := "listIterator", desc := "(I)Ljava/util/ListIterator;" } : Jvm.MethodName)) ∈ lw_all := lw_g (lw_at lw_m9 37 rfl) rfl
theorem q2094 : (Jvm.Cond.instanceMethod ({ cls := "java/util/AbstractList", name := "listIterator", desc := "(I)Ljava/util/ListIterator;" } : Jvm.MethodName)) ∈ lw_all := lw_g (lw_at lw_m9 38 rfl) rfl
theorem q2095 : (Jvm.Cond.sameMethod "java/util/AbstractList" "java/util/AbstractList" "listIterator" "(I)Ljava/util/ListIterator;") ∈ lw_all := lw_g (lw_at lw_m9 39 rfl) rfl
theorem q2172 : (Jvm.Cond.declares ({ cls := "java/util/AbstractList", name := "listIterator", desc := "(I)Ljava/util/ListIterator;" } : Jvm.MethodName)) ∈ lw_tbl := lw_at lw_m9 116 rfl
theorem q2184 : (Jvm.Cond.sameMethod "java/util/AbstractList" "java/util/AbstractCollection" "size" "()I") ∈ lw_all := lw_g (lw_at lw_m9 128 rfl) rfl
theorem q2214 : (Jvm.Cond.declares ({ cls := "java/util/AbstractList", name := "get", desc := "(I)Ljava/lang/Object;" } : Jvm.MethodName)) ∈ lw_tbl := lw_at lw_m9 158 rfl
theorem q2215 : (Jvm.Cond.sameMethod "java/util/AbstractList" "java/util/AbstractList" "get" "(I)Ljava/lang/Object;") ∈ lw_all := lw_g (lw_at lw_m9 159 rfl) rfl
theorem q154 : (Jvm.Cond.initialized "java/util/ArrayList") ∈ lw_all := lw_g (lw_at lw_m1 18 rfl) rfl
theorem q305 : (Jvm.Cond.castable "java/util/ArrayList" "java/util/List") ∈ lw_tbl := lw_at lw_m1 169 rfl
theorem q306 : (Jvm.Cond.selects "java/util/ArrayList" ({ cls := "java/util/List", name := "size", desc := "()I" } : Jvm.MethodName) ({ cls := "java/util/ArrayList", name := "size", desc := "()I" } : Jvm.MethodName)) ∈ lw_all := lw_g (lw_at lw_m1 170 rfl) rfl
theorem q307 : (Jvm.Cond.unhidden "java/util/ArrayList" "size" "()I") ∈ lw_tbl := lw_at lw_m1 171 rfl
theorem q308 : (Jvm.Cond.instanceMethod ({ cls := "java/util/ArrayList", name := "size", desc := "()I" } : Jvm.MethodName)) ∈ lw_all := lw_g (lw_at lw_m1 172 rfl) rfl
theorem q309 : (Jvm.Cond.publicMethod ({ cls := "java/util/ArrayList", name := "size", desc := "()I" } : Jvm.MethodName)) ∈ lw_tbl := lw_at lw_m1 173 rfl
theorem q310 : (Jvm.Cond.code ({ cls := "java/util/ArrayList", name := "size", desc := "()I" } : Jvm.MethodName) prog_50_method_8_code (1 : Nat) (Option.some Jvm.ClassFile.FieldType.int)) ∈ lw_all := lw_g (lw_at lw_m1 174 rfl) rfl
theorem q488 : (Jvm.Cond.instantiable "java/util/ArrayList" (3 : Nat)) ∈ lw_all := lw_g (lw_at lw_m2 112 rfl) rfl
theorem q490 : (Jvm.Cond.instanceMethod ({ cls := "java/util/ArrayList", name := "<init>", desc := "(I)V" } : Jvm.MethodName)) ∈ lw_all := lw_g (lw_at lw_m2 114 rfl) rfl
theorem q491 : (Jvm.Cond.code ({ cls := "java/util/ArrayList", name := "<init>", desc := "(I)V" } : Jvm.MethodName) prog_50_method_1_code (2 : Nat) (Option.none : Option Jvm.ClassFile.FieldType)) ∈ lw_all := lw_g (lw_at lw_m2 115 rfl) rfl
theorem q492 : (Jvm.Cond.methodLink "java/util/ArrayList" (1 : Nat) ({ cls := "java/util/AbstractList", name := "<init>", desc := "()V" } : Jvm.MethodName)) ∈ lw_all := lw_g (lw_at lw_m2 116 rfl) rfl
theorem q496 : (Jvm.Cond.classLink "java/util/ArrayList" (7 : Nat) "java/lang/Object") ∈ lw_all := lw_g (lw_at lw_m2 120 rfl) rfl
theorem q497 : (Jvm.Cond.fieldLink "java/util/ArrayList" (15 : Nat) "java/util/ArrayList" "EMPTY_ELEMENTDATA" "[Ljava/lang/Object;") ∈ lw_all := lw_g (lw_at lw_m2 121 rfl) rfl
theorem q498 : (Jvm.Cond.laysStatic "java/util/ArrayList" "EMPTY_ELEMENTDATA" "[Ljava/lang/Object;") ∈ lw_tbl := lw_at lw_m2 122 rfl
theorem q499 : (Jvm.Cond.classLink "java/util/ArrayList" (18 : Nat) "java/lang/IllegalArgumentException") ∈ lw_all := lw_g (lw_at lw_m2 123 rfl) rfl
theorem q508 : (Jvm.Cond.classLink "java/util/ArrayList" (20 : Nat) "java/lang/StringBuilder") ∈ lw_all := lw_g (lw_at lw_m2 132 rfl) rfl
theorem q509 : (Jvm.Cond.methodLink "java/util/ArrayList" (22 : Nat) ({ cls := "java/lang/StringBuilder", name := "<init>", desc := "()V" } : Jvm.MethodName)) ∈ lw_all := lw_g (lw_at lw_m2 133 rfl) rfl
theorem q510 : (Jvm.Cond.stringRef "java/util/ArrayList" (23 : Nat) "Illegal Capacity: ") ∈ lw_tbl := lw_at lw_m2 134 rfl
theorem q511 : (Jvm.Cond.methodLink "java/util/ArrayList" (25 : Nat) ({ cls := "java/lang/StringBuilder", name := "append", desc := "(Ljava/lang/String;)Ljava/lang/StringBuilder;" } : Jvm.MethodName)) ∈ lw_all := lw_g (lw_at lw_m2 135 rfl) rfl
theorem q631 : (Jvm.Cond.methodLink "java/util/ArrayList" (29 : Nat) ({ cls := "java/lang/StringBuilder", name := "append", desc := "(I)Ljava/lang/StringBuilder;" } : Jvm.MethodName)) ∈ lw_all := lw_g (lw_at lw_m3 15 rfl) rfl
theorem q656 : (Jvm.Cond.methodLink "java/util/ArrayList" (32 : Nat) ({ cls := "java/lang/StringBuilder", name := "toString", desc := "()Ljava/lang/String;" } : Jvm.MethodName)) ∈ lw_all := lw_g (lw_at lw_m3 40 rfl) rfl
theorem q726 : (Jvm.Cond.methodLink "java/util/ArrayList" (36 : Nat) ({ cls := "java/lang/IllegalArgumentException", name := "<init>", desc := "(Ljava/lang/String;)V" } : Jvm.MethodName)) ∈ lw_all := lw_g (lw_at lw_m3 110 rfl) rfl
theorem q727 : (Jvm.Cond.fieldLink "java/util/ArrayList" (9 : Nat) "java/util/ArrayList" "elementData" "[Ljava/lang/Object;") ∈ lw_all := lw_g (lw_at lw_m3 111 rfl) rfl
theorem q730 : (Jvm.Cond.fieldLink "java/util/ArrayList" (48 : Nat) "java/util/ArrayList" "size" "I") ∈ lw_all := lw_g (lw_at lw_m3 114 rfl) rfl
theorem q735 : (Jvm.Cond.sameField "java/util/ArrayList" "java/util/AbstractList" "modCount" "I") ∈ lw_all := lw_g (lw_at lw_m3 119 rfl) rfl
theorem q738 : (Jvm.Cond.fieldLink "java/util/ArrayList" (63 : Nat) "java/util/ArrayList" "modCount" "I") ∈ lw_all := lw_g (lw_at lw_m3 122 rfl) rfl
theorem q739 : (Jvm.Cond.lays "java/util/ArrayList" "java/util/ArrayList" "elementData" "[Ljava/lang/Object;") ∈ lw_all := lw_g (lw_at lw_m3 123 rfl) rfl
theorem q740 : (Jvm.Cond.soleField "java/util/ArrayList" "elementData") ∈ lw_all := lw_g (lw_at lw_m3 124 rfl) rfl
theorem q741 : (Jvm.Cond.lays "java/util/ArrayList" "java/util/ArrayList" "size" "I") ∈ lw_all := lw_g (lw_at lw_m3 125 rfl) rfl
theorem q742 : (Jvm.Cond.soleField "java/util/ArrayList" "size") ∈ lw_all := lw_g (lw_at lw_m3 126 rfl) rfl
theorem q743 : (Jvm.Cond.lays "java/util/ArrayList" "java/util/AbstractList" "modCount" "I") ∈ lw_all := lw_g (lw_at lw_m3 127 rfl) rfl
theorem q745 : (Jvm.Cond.superclass "java/util/ArrayList" "java/util/AbstractList") ∈ lw_all := lw_g (lw_at lw_m3 129 rfl) rfl
theorem q1115 : (Jvm.Cond.selects "java/util/ArrayList" ({ cls := "java/util/List", name := "add", desc := "(Ljava/lang/Object;)Z" } : Jvm.MethodName) ({ cls := "java/util/ArrayList", name := "add", desc := "(Ljava/lang/Object;)Z" } : Jvm.MethodName)) ∈ lw_all := lw_g (lw_at lw_m5 19 rfl) rfl
theorem q1116 : (Jvm.Cond.unhidden "java/util/ArrayList" "add" "(Ljava/lang/Object;)Z") ∈ lw_tbl := lw_at lw_m5 20 rfl
theorem q1117 : (Jvm.Cond.instanceMethod ({ cls := "java/util/ArrayList", name := "add", desc := "(Ljava/lang/Object;)Z" } : Jvm.MethodName)) ∈ lw_all := lw_g (lw_at lw_m5 21 rfl) rfl
theorem q1118 : (Jvm.Cond.publicMethod ({ cls := "java/util/ArrayList", name := "add", desc := "(Ljava/lang/Object;)Z" } : Jvm.MethodName)) ∈ lw_tbl := lw_at lw_m5 22 rfl
theorem q1119 : (Jvm.Cond.code ({ cls := "java/util/ArrayList", name := "add", desc := "(Ljava/lang/Object;)Z" } : Jvm.MethodName) prog_50_method_25_code (2 : Nat) (Option.some Jvm.ClassFile.FieldType.boolean)) ∈ lw_all := lw_g (lw_at lw_m5 23 rfl) rfl
theorem q1120 : (Jvm.Cond.methodLink "java/util/ArrayList" (131 : Nat) ({ cls := "java/util/ArrayList", name := "add", desc := "(Ljava/lang/Object;[Ljava/lang/Object;I)V" } : Jvm.MethodName)) ∈ lw_all := lw_g (lw_at lw_m5 24 rfl) rfl
theorem q1121 : (Jvm.Cond.privateMethod ({ cls := "java/util/ArrayList", name := "add", desc := "(Ljava/lang/Object;[Ljava/lang/Object;I)V" } : Jvm.MethodName)) ∈ lw_tbl := lw_at lw_m5 25 rfl
theorem q1122 : (Jvm.Cond.instanceMethod ({ cls := "java/util/ArrayList", name := "add", desc := "(Ljava/lang/Object;[Ljava/lang/Object;I)V" } : Jvm.MethodName)) ∈ lw_all := lw_g (lw_at lw_m5 26 rfl) rfl
theorem q1123 : (Jvm.Cond.code ({ cls := "java/util/ArrayList", name := "add", desc := "(Ljava/lang/Object;[Ljava/lang/Object;I)V" } : Jvm.MethodName) prog_50_method_24_code (4 : Nat) (Option.none : Option Jvm.ClassFile.FieldType)) ∈ lw_all := lw_g (lw_at lw_m5 27 rfl) rfl
theorem q1124 : (Jvm.Cond.methodLink "java/util/ArrayList" (129 : Nat) ({ cls := "java/util/ArrayList", name := "grow", desc := "()[Ljava/lang/Object;" } : Jvm.MethodName)) ∈ lw_all := lw_g (lw_at lw_m5 28 rfl) rfl
theorem q1125 : (Jvm.Cond.privateMethod ({ cls := "java/util/ArrayList", name := "grow", desc := "()[Ljava/lang/Object;" } : Jvm.MethodName)) ∈ lw_tbl := lw_at lw_m5 29 rfl
theorem q1126 : (Jvm.Cond.instanceMethod ({ cls := "java/util/ArrayList", name := "grow", desc := "()[Ljava/lang/Object;" } : Jvm.MethodName)) ∈ lw_all := lw_g (lw_at lw_m5 30 rfl) rfl
theorem q1127 : (Jvm.Cond.code ({ cls := "java/util/ArrayList", name := "grow", desc := "()[Ljava/lang/Object;" } : Jvm.MethodName) prog_50_method_7_code (1 : Nat) (Option.some (Jvm.ClassFile.FieldType.array (Jvm.ClassFile.FieldType.object "java/lang/Object")))) ∈ lw_all := lw_g (lw_at lw_m5 31 rfl) rfl
theorem q1128 : (Jvm.Cond.methodLink "java/util/ArrayList" (69 : Nat) ({ cls := "java/util/ArrayList", name := "grow", desc := "(I)[Ljava/lang/Object;" } : Jvm.MethodName)) ∈ lw_all := lw_g (lw_at lw_m5 32 rfl) rfl
theorem q1129 : (Jvm.Cond.privateMethod ({ cls := "java/util/ArrayList", name := "grow", desc := "(I)[Ljava/lang/Object;" } : Jvm.MethodName)) ∈ lw_tbl := lw_at lw_m5 33 rfl
theorem q1130 : (Jvm.Cond.instanceMethod ({ cls := "java/util/ArrayList", name := "grow", desc := "(I)[Ljava/lang/Object;" } : Jvm.MethodName)) ∈ lw_all := lw_g (lw_at lw_m5 34 rfl) rfl
theorem q1131 : (Jvm.Cond.code ({ cls := "java/util/ArrayList", name := "grow", desc := "(I)[Ljava/lang/Object;" } : Jvm.MethodName) prog_50_method_6_code (4 : Nat) (Option.some (Jvm.ClassFile.FieldType.array (Jvm.ClassFile.FieldType.object "java/lang/Object")))) ∈ lw_all := lw_g (lw_at lw_m5 35 rfl) rfl
theorem q1132 : (Jvm.Cond.fieldLink "java/util/ArrayList" (39 : Nat) "java/util/ArrayList" "DEFAULTCAPACITY_EMPTY_ELEMENTDATA" "[Ljava/lang/Object;") ∈ lw_all := lw_g (lw_at lw_m5 36 rfl) rfl
theorem q1133 : (Jvm.Cond.laysStatic "java/util/ArrayList" "DEFAULTCAPACITY_EMPTY_ELEMENTDATA" "[Ljava/lang/Object;") ∈ lw_tbl := lw_at lw_m5 37 rfl
theorem q1134 : (Jvm.Cond.methodLink "java/util/ArrayList" (73 : Nat) ({ cls := "jdk/internal/util/ArraysSupport", name := "newLength", desc := "(III)I" } : Jvm.MethodName)) ∈ lw_all := lw_g (lw_at lw_m5 38 rfl) rfl
theorem q1135 : (Jvm.Cond.methodLink "java/util/ArrayList" (66 : Nat) ({ cls := "java/util/Arrays", name := "copyOf", desc := "([Ljava/lang/Object;I)[Ljava/lang/Object;" } : Jvm.MethodName)) ∈ lw_all := lw_g (lw_at lw_m5 39 rfl) rfl
theorem q1162 : (Jvm.Cond.selects "java/util/ArrayList" ({ cls := "java/lang/Object", name := "getClass", desc := "()Ljava/lang/Class;" } : Jvm.MethodName) ({ cls := "java/lang/Object", name := "getClass", desc := "()Ljava/lang/Class;" } : Jvm.MethodName)) ∈ lw_all := lw_g (lw_at lw_m5 66 rfl) rfl
theorem q1177 : (Jvm.Cond.methodLink "java/util/ArrayList" (79 : Nat) ({ cls := "java/lang/Math", name := "max", desc := "(II)I" } : Jvm.MethodName)) ∈ lw_all := lw_g (lw_at lw_m5 81 rfl) rfl
theorem q1287 : (Jvm.Cond.selects "java/util/ArrayList" ({ cls := "java/util/List", name := "contains", desc := "(Ljava/lang/Object;)Z" } : Jvm.MethodName) ({ cls := "java/util/ArrayList", name := "contains", desc := "(Ljava/lang/Object;)Z" } : Jvm.MethodName)) ∈ lw_all := lw_g (lw_at lw_m5 191 rfl) rfl
theorem q1288 : (Jvm.Cond.unhidden "java/util/ArrayList" "contains" "(Ljava/lang/Object;)Z") ∈ lw_tbl := lw_at lw_m5 192 rfl
theorem q1289 : (Jvm.Cond.instanceMethod ({ cls := "java/util/ArrayList", name := "contains", desc := "(Ljava/lang/Object;)Z" } : Jvm.MethodName)) ∈ lw_all := lw_g (lw_at lw_m5 193 rfl) rfl
theorem q1290 : (Jvm.Cond.publicMethod ({ cls := "java/util/ArrayList", name := "contains", desc := "(Ljava/lang/Object;)Z" } : Jvm.MethodName)) ∈ lw_tbl := lw_at lw_m5 194 rfl
theorem q1291 : (Jvm.Cond.code ({ cls := "java/util/ArrayList", name := "contains", desc := "(Ljava/lang/Object;)Z" } : Jvm.MethodName) prog_50_method_10_code (2 : Nat) (Option.some Jvm.ClassFile.FieldType.boolean)) ∈ lw_all := lw_g (lw_at lw_m5 195 rfl) rfl
theorem q1292 : (Jvm.Cond.methodLink "java/util/ArrayList" (85 : Nat) ({ cls := "java/util/ArrayList", name := "indexOf", desc := "(Ljava/lang/Object;)I" } : Jvm.MethodName)) ∈ lw_all := lw_g (lw_at lw_m5 196 rfl) rfl
theorem q1293 : (Jvm.Cond.instanceMethod ({ cls := "java/util/ArrayList", name := "indexOf", desc := "(Ljava/lang/Object;)I" } : Jvm.MethodName)) ∈ lw_all := lw_g (lw_at lw_m5 197 rfl) rfl
theorem q1294 : (Jvm.Cond.selects "java/util/ArrayList" ({ cls := "java/util/ArrayList", name := "indexOf", desc := "(Ljava/lang/Object;)I" } : Jvm.MethodName) ({ cls := "java/util/ArrayList", name := "indexOf", desc := "(Ljava/lang/Object;)I" } : Jvm.MethodName)) ∈ lw_all := lw_g (lw_at lw_m5 198 rfl) rfl
theorem q1295 : (Jvm.Cond.code ({ cls := "java/util/ArrayList", name := "indexOf", desc := "(Ljava/lang/Object;)I" } : Jvm.MethodName) prog_50_method_11_code (2 : Nat) (Option.some Jvm.ClassFile.FieldType.int)) ∈ lw_all := lw_g (lw_at lw_m5 199 rfl) rfl
theorem q1296 : (Jvm.Cond.methodLink "java/util/ArrayList" (89 : Nat) ({ cls := "java/util/ArrayList", name := "indexOfRange", desc := "(Ljava/lang/Object;II)I" } : Jvm.MethodName)) ∈ lw_all := lw_g (lw_at lw_m5 200 rfl) rfl
theorem q1297 : (Jvm.Cond.instanceMethod ({ cls := "java/util/ArrayList", name := "indexOfRange", desc := "(Ljava/lang/Object;II)I" } : Jvm.MethodName)) ∈ lw_all := lw_g (lw_at lw_m5 201 rfl) rfl
theorem q1298 : (Jvm.Cond.selects "java/util/ArrayList" ({ cls := "java/util/ArrayList", name := "indexOfRange", desc := "(Ljava/lang/Object;II)I" } : Jvm.MethodName) ({ cls := "java/util/ArrayList", name := "indexOfRange", desc := "(Ljava/lang/Object;II)I" } : Jvm.MethodName)) ∈ lw_all := lw_g (lw_at lw_m5 202 rfl) rfl
theorem q1299 : (Jvm.Cond.code ({ cls := "java/util/ArrayList", name := "indexOfRange", desc := "(Ljava/lang/Object;II)I" } : Jvm.MethodName) prog_50_method_12_code (6 : Nat) (Option.some Jvm.ClassFile.FieldType.int)) ∈ lw_all := lw_g (lw_at lw_m5 203 rfl) rfl
theorem q1301 : (Jvm.Cond.methodLink "java/util/ArrayList" (93 : Nat) ({ cls := "java/lang/Object", name := "equals", desc := "(Ljava/lang/Object;)Z" } : Jvm.MethodName)) ∈ lw_all := lw_g (lw_at lw_m5 205 rfl) rfl
theorem q1524 : (Jvm.Cond.selects "java/util/ArrayList" ({ cls := "java/util/List", name := "isEmpty", desc := "()Z" } : Jvm.MethodName) ({ cls := "java/util/ArrayList", name := "isEmpty", desc := "()Z" } : Jvm.MethodName)) ∈ lw_all := lw_g (lw_at lw_m6 188 rfl) rfl
theorem q1525 : (Jvm.Cond.unhidden "java/util/ArrayList" "isEmpty" "()Z") ∈ lw_tbl := lw_at lw_m6 189 rfl
theorem q1526 : (Jvm.Cond.instanceMethod ({ cls := "java/util/ArrayList", name := "isEmpty", desc := "()Z" } : Jvm.MethodName)) ∈ lw_all := lw_g (lw_at lw_m6 190 rfl) rfl
theorem q1527 : (Jvm.Cond.publicMethod ({ cls := "java/util/ArrayList", name := "isEmpty", desc := "()Z" } : Jvm.MethodName)) ∈ lw_tbl := lw_at lw_m6 191 rfl
theorem q1528 : (Jvm.Cond.code ({ cls := "java/util/ArrayList", name := "isEmpty", desc := "()Z" } : Jvm.MethodName) prog_50_method_9_code (1 : Nat) (Option.some Jvm.ClassFile.FieldType.boolean)) ∈ lw_all := lw_g (lw_at lw_m6 192 rfl) rfl
theorem q1548 : (Jvm.Cond.selects "java/util/ArrayList" ({ cls := "java/util/AbstractCollection", name := "size", desc := "()I" } : Jvm.MethodName) ({ cls := "java/util/ArrayList", name := "size", desc := "()I" } : Jvm.MethodName)) ∈ lw_all := lw_g (lw_at lw_m6 212 rfl) rfl
theorem q1575 : (Jvm.Cond.selects "java/util/ArrayList" ({ cls := "java/util/List", name := "get", desc := "(I)Ljava/lang/Object;" } : Jvm.MethodName) ({ cls := "java/util/ArrayList", name := "get", desc := "(I)Ljava/lang/Object;" } : Jvm.MethodName)) ∈ lw_all := lw_g (lw_at lw_m6 239 rfl) rfl
theorem q1576 : (Jvm.Cond.unhidden "java/util/ArrayList" "get" "(I)Ljava/lang/Object;") ∈ lw_tbl := lw_at lw_m7 0 rfl
theorem q1577 : (Jvm.Cond.instanceMethod ({ cls := "java/util/ArrayList", name := "get", desc := "(I)Ljava/lang/Object;" } : Jvm.MethodName)) ∈ lw_all := lw_g (lw_at lw_m7 1 rfl) rfl
theorem q1578 : (Jvm.Cond.publicMethod ({ cls := "java/util/ArrayList", name := "get", desc := "(I)Ljava/lang/Object;" } : Jvm.MethodName)) ∈ lw_tbl := lw_at lw_m7 2 rfl
theorem q1579 : (Jvm.Cond.code ({ cls := "java/util/ArrayList", name := "get", desc := "(I)Ljava/lang/Object;" } : Jvm.MethodName) prog_50_method_20_code (2 : Nat) (Option.some (Jvm.ClassFile.FieldType.object "java/lang/Object"))) ∈ lw_all := lw_g (lw_at lw_m7 3 rfl) rfl
theorem q1580 : (Jvm.Cond.methodLink "java/util/ArrayList" (118 : Nat) ({ cls := "java/util/Objects", name := "checkIndex", desc := "(II)I" } : Jvm.MethodName)) ∈ lw_all := lw_g (lw_at lw_m7 4 rfl) rfl
theorem q1584 : (Jvm.Cond.methodLink "java/util/ArrayList" (123 : Nat) ({ cls := "java/util/ArrayList", name := "elementData", desc := "(I)Ljava/lang/Object;" } : Jvm.MethodName)) ∈ lw_all := lw_g (lw_at lw_m7 8 rfl) rfl
theorem q1585 : (Jvm.Cond.instanceMethod ({ cls := "java/util/ArrayList", name := "elementData", desc := "(I)Ljava/lang/Object;" } : Jvm.MethodName)) ∈ lw_all := lw_g (lw_at lw_m7 9 rfl) rfl
theorem q1586 : (Jvm.Cond.selects "java/util/ArrayList" ({ cls := "java/util/ArrayList", name := "elementData", desc := "(I)Ljava/lang/Object;" } : Jvm.MethodName) ({ cls := "java/util/ArrayList", name := "elementData", desc := "(I)Ljava/lang/Object;" } : Jvm.MethodName)) ∈ lw_all := lw_g (lw_at lw_m7 10 rfl) rfl
theorem q1587 : (Jvm.Cond.code ({ cls := "java/util/ArrayList", name := "elementData", desc := "(I)Ljava/lang/Object;" } : Jvm.MethodName) prog_50_method_18_code (2 : Nat) (Option.some (Jvm.ClassFile.FieldType.object "java/lang/Object"))) ∈ lw_all := lw_g (lw_at lw_m7 11 rfl) rfl
theorem q2096 : (Jvm.Cond.selects "java/util/ArrayList" ({ cls := "java/util/AbstractList", name := "listIterator", desc := "(I)Ljava/util/ListIterator;" } : Jvm.MethodName) ({ cls := "java/util/ArrayList", name := "listIterator", desc := "(I)Ljava/util/ListIterator;" } : Jvm.MethodName)) ∈ lw_all := lw_g (lw_at lw_m9 40 rfl) rfl
theorem q2097 : (Jvm.Cond.instanceMethod ({ cls := "java/util/ArrayList", name := "listIterator", desc := "(I)Ljava/util/ListIterator;" } : Jvm.MethodName)) ∈ lw_all := lw_g (lw_at lw_m9 41 rfl) rfl
theorem q2098 : (Jvm.Cond.code ({ cls := "java/util/ArrayList", name := "listIterator", desc := "(I)Ljava/util/ListIterator;" } : Jvm.MethodName) prog_50_method_53_code (2 : Nat) (Option.some (Jvm.ClassFile.FieldType.object "java/util/ListIterator"))) ∈ lw_all := lw_g (lw_at lw_m9 42 rfl) rfl
theorem q2099 : (Jvm.Cond.methodLink "java/util/ArrayList" (135 : Nat) ({ cls := "java/util/ArrayList", name := "rangeCheckForAdd", desc := "(I)V" } : Jvm.MethodName)) ∈ lw_all := lw_g (lw_at lw_m9 43 rfl) rfl
theorem q2100 : (Jvm.Cond.privateMethod ({ cls := "java/util/ArrayList", name := "rangeCheckForAdd", desc := "(I)V" } : Jvm.MethodName)) ∈ lw_tbl := lw_at lw_m9 44 rfl
theorem q2101 : (Jvm.Cond.instanceMethod ({ cls := "java/util/ArrayList", name := "rangeCheckForAdd", desc := "(I)V" } : Jvm.MethodName)) ∈ lw_all := lw_g (lw_at lw_m9 45 rfl) rfl
theorem q2102 : (Jvm.Cond.code ({ cls := "java/util/ArrayList", name := "rangeCheckForAdd", desc := "(I)V" } : Jvm.MethodName) prog_50_method_45_code (2 : Nat) (Option.none : Option Jvm.ClassFile.FieldType)) ∈ lw_all := lw_g (lw_at lw_m9 46 rfl) rfl
theorem q2103 : (Jvm.Cond.classLink "java/util/ArrayList" (187 : Nat) "java/lang/IndexOutOfBoundsException") ∈ lw_all := lw_g (lw_at lw_m9 47 rfl) rfl
theorem q2104 : (Jvm.Cond.methodLink "java/util/ArrayList" (198 : Nat) ({ cls := "java/util/ArrayList", name := "outOfBoundsMsg", desc := "(I)Ljava/lang/String;" } : Jvm.MethodName)) ∈ lw_all := lw_g (lw_at lw_m9 48 rfl) rfl
theorem q2105 : (Jvm.Cond.privateMethod ({ cls := "java/util/ArrayList", name := "outOfBoundsMsg", desc := "(I)Ljava/lang/String;" } : Jvm.MethodName)) ∈ lw_tbl := lw_at lw_m9 49 rfl
theorem q2106 : (Jvm.Cond.instanceMethod ({ cls := "java/util/ArrayList", name := "outOfBoundsMsg", desc := "(I)Ljava/lang/String;" } : Jvm.MethodName)) ∈ lw_all := lw_g (lw_at lw_m9 50 rfl) rfl
theorem q2107 : (Jvm.Cond.code ({ cls := "java/util/ArrayList", name := "outOfBoundsMsg", desc := "(I)Ljava/lang/String;" } : Jvm.MethodName) prog_50_method_46_code (2 : Nat) (Option.some (Jvm.ClassFile.FieldType.object "java/lang/String"))) ∈ lw_all := lw_g (lw_at lw_m9 51 rfl) rfl
theorem q2108 : (Jvm.Cond.stringRef "java/util/ArrayList" (201 : Nat) "Index: ") ∈ lw_tbl := lw_at lw_m9 52 rfl
theorem q2109 : (Jvm.Cond.stringRef "java/util/ArrayList" (203 : Nat) ", Size: ") ∈ lw_tbl := lw_at lw_m9 53 rfl
theorem q2110 : (Jvm.Cond.methodLink "java/util/ArrayList" (193 : Nat) ({ cls := "java/lang/IndexOutOfBoundsException", name := "<init>", desc := "(Ljava/lang/String;)V" } : Jvm.MethodName)) ∈ lw_all := lw_g (lw_at lw_m9 54 rfl) rfl
theorem q2111 : (Jvm.Cond.classLink "java/util/ArrayList" (262 : Nat) "java/util/ArrayList$ListItr") ∈ lw_all := lw_g (lw_at lw_m9 55 rfl) rfl
theorem q2113 : (Jvm.Cond.methodLink "java/util/ArrayList" (264 : Nat) ({ cls := "java/util/ArrayList$ListItr", name := "<init>", desc := "(Ljava/util/ArrayList;I)V" } : Jvm.MethodName)) ∈ lw_all := lw_g (lw_at lw_m9 57 rfl) rfl
theorem q2185 : (Jvm.Cond.selects "java/util/ArrayList" ({ cls := "java/util/AbstractList", name := "size", desc := "()I" } : Jvm.MethodName) ({ cls := "java/util/ArrayList", name := "size", desc := "()I" } : Jvm.MethodName)) ∈ lw_all := lw_g (lw_at lw_m9 129 rfl) rfl
theorem q2216 : (Jvm.Cond.selects "java/util/ArrayList" ({ cls := "java/util/AbstractList", name := "get", desc := "(I)Ljava/lang/Object;" } : Jvm.MethodName) ({ cls := "java/util/ArrayList", name := "get", desc := "(I)Ljava/lang/Object;" } : Jvm.MethodName)) ∈ lw_all := lw_g (lw_at lw_m9 160 rfl) rfl
theorem q3672 : (Jvm.Cond.castable "java/util/ArrayList" "java/lang/Object") ∈ lw_tbl := lw_at lw_m15 176 rfl
theorem q155 : (Jvm.Cond.initialized "java/lang/IllegalArgumentException") ∈ lw_all := lw_g (lw_at lw_m1 19 rfl) rfl
theorem q387 : (Jvm.Cond.selects "java/lang/IllegalArgumentException" ({ cls := "java/lang/Throwable", name := "fillInStackTrace", desc := "()Ljava/lang/Throwable;" } : Jvm.MethodName) ({ cls := "java/lang/Throwable", name := "fillInStackTrace", desc := "()Ljava/lang/Throwable;" } : Jvm.MethodName)) ∈ lw_all := lw_g (lw_at lw_m2 11 rfl) rfl
theorem q500 : (Jvm.Cond.instantiable "java/lang/IllegalArgumentException" (6 : Nat)) ∈ lw_all := lw_g (lw_at lw_m2 124 rfl) rfl
theorem q501 : (Jvm.Cond.castable "java/lang/IllegalArgumentException" "java/lang/IllegalArgumentException") ∈ lw_tbl := lw_at lw_m2 125 rfl
theorem q502 : (Jvm.Cond.selects "java/lang/IllegalArgumentException" ({ cls := "java/lang/Throwable", name := "fillInStackTrace", desc := "(I)Ljava/lang/Throwable;" } : Jvm.MethodName) ({ cls := "java/lang/Throwable", name := "fillInStackTrace", desc := "(I)Ljava/lang/Throwable;" } : Jvm.MethodName)) ∈ lw_all := lw_g (lw_at lw_m2 126 rfl) rfl
theorem q503 : (Jvm.Cond.lays "java/lang/IllegalArgumentException" "java/lang/Throwable" "cause" "Ljava/lang/Throwable;") ∈ lw_all := lw_g (lw_at lw_m2 127 rfl) rfl
theorem q504 : (Jvm.Cond.lays "java/lang/IllegalArgumentException" "java/lang/Throwable" "stackTrace" "[Ljava/lang/StackTraceElement;") ∈ lw_all := lw_g (lw_at lw_m2 128 rfl) rfl
theorem q505 : (Jvm.Cond.lays "java/lang/IllegalArgumentException" "java/lang/Throwable" "suppressedExceptions" "Ljava/util/List;") ∈ lw_all := lw_g (lw_at lw_m2 129 rfl) rfl
theorem q506 : (Jvm.Cond.lays "java/lang/IllegalArgumentException" "java/lang/Throwable" "detailMessage" "Ljava/lang/String;") ∈ lw_all := lw_g (lw_at lw_m2 130 rfl) rfl
theorem q507 : (Jvm.Cond.lays "java/lang/IllegalArgumentException" "java/lang/Throwable" "backtrace" "Ljava/lang/Object;") ∈ lw_all := lw_g (lw_at lw_m2 131 rfl) rfl
theorem q699 : (Jvm.Cond.instanceMethod ({ cls := "java/lang/IllegalArgumentException", name := "<init>", desc := "(Ljava/lang/String;)V" } : Jvm.MethodName)) ∈ lw_all := lw_g (lw_at lw_m3 83 rfl) rfl
theorem q700 : (Jvm.Cond.code ({ cls := "java/lang/IllegalArgumentException", name := "<init>", desc := "(Ljava/lang/String;)V" } : Jvm.MethodName) prog_24_method_2_code (2 : Nat) (Option.none : Option Jvm.ClassFile.FieldType)) ∈ lw_all := lw_g (lw_at lw_m3 84 rfl) rfl
theorem q701 : (Jvm.Cond.methodLink "java/lang/IllegalArgumentException" (7 : Nat) ({ cls := "java/lang/RuntimeException", name := "<init>", desc := "(Ljava/lang/String;)V" } : Jvm.MethodName)) ∈ lw_all := lw_g (lw_at lw_m3 85 rfl) rfl
theorem q702 : (Jvm.Cond.lays "java/lang/IllegalArgumentException" "java/lang/Throwable" "depth" "I") ∈ lw_all := lw_g (lw_at lw_m3 86 rfl) rfl
theorem q703 : (Jvm.Cond.superclass "java/lang/IllegalArgumentException" "java/lang/RuntimeException") ∈ lw_all := lw_g (lw_at lw_m3 87 rfl) rfl
theorem q1152 : (Jvm.Cond.selects "java/lang/IllegalArgumentException" ({ cls := "java/lang/Object", name := "getClass", desc := "()Ljava/lang/Class;" } : Jvm.MethodName) ({ cls := "java/lang/Object", name := "getClass", desc := "()Ljava/lang/Class;" } : Jvm.MethodName)) ∈ lw_all := lw_g (lw_at lw_m5 56 rfl) rfl
theorem q1315 : (Jvm.Cond.selects "java/lang/IllegalArgumentException" ({ cls := "java/lang/Object", name := "equals", desc := "(Ljava/lang/Object;)Z" } : Jvm.MethodName) ({ cls := "java/lang/Object", name := "equals", desc := "(Ljava/lang/Object;)Z" } : Jvm.MethodName)) ∈ lw_all := lw_g (lw_at lw_m5 219 rfl) rfl
theorem q1782 : (Jvm.Cond.instanceMethod ({ cls := "java/lang/IllegalArgumentException", name := "<init>", desc := "()V" } : Jvm.MethodName)) ∈ lw_all := lw_g (lw_at lw_m7 206 rfl) rfl
theorem q1783 : (Jvm.Cond.code ({ cls := "java/lang/IllegalArgumentException", name := "<init>", desc := "()V" } : Jvm.MethodName) prog_24_method_1_code (1 : Nat) (Option.none : Option Jvm.ClassFile.FieldType)) ∈ lw_all := lw_g (lw_at lw_m7 207 rfl) rfl
theorem q1784 : (Jvm.Cond.methodLink "java/lang/IllegalArgumentException" (1 : Nat) ({ cls := "java/lang/RuntimeException", name := "<init>", desc := "()V" } : Jvm.MethodName)) ∈ lw_all := lw_g (lw_at lw_m7 208 rfl) rfl
theorem q2244 : (Jvm.Cond.selects "java/lang/IllegalArgumentException" ({ cls := "java/lang/Throwable", name := "toString", desc := "()Ljava/lang/String;" } : Jvm.MethodName) ({ cls := "java/lang/Throwable", name := "toString", desc := "()Ljava/lang/String;" } : Jvm.MethodName)) ∈ lw_all := lw_g (lw_at lw_m9 188 rfl) rfl
theorem q2256 : (Jvm.Cond.selects "java/lang/IllegalArgumentException" ({ cls := "java/lang/Throwable", name := "getLocalizedMessage", desc := "()Ljava/lang/String;" } : Jvm.MethodName) ({ cls := "java/lang/Throwable", name := "getLocalizedMessage", desc := "()Ljava/lang/String;" } : Jvm.MethodName)) ∈ lw_all := lw_g (lw_at lw_m9 200 rfl) rfl
theorem q2267 : (Jvm.Cond.selects "java/lang/IllegalArgumentException" ({ cls := "java/lang/Throwable", name := "getMessage", desc := "()Ljava/lang/String;" } : Jvm.MethodName) ({ cls := "java/lang/Throwable", name := "getMessage", desc := "()Ljava/lang/String;" } : Jvm.MethodName)) ∈ lw_all := lw_g (lw_at lw_m9 211 rfl) rfl
theorem q3673 : (Jvm.Cond.castable "java/lang/IllegalArgumentException" "java/lang/Object") ∈ lw_tbl := lw_at lw_m15 177 rfl
theorem q156 : (Jvm.Cond.initialized "jdk/internal/util/ArraysSupport") ∈ lw_all := lw_g (lw_at lw_m1 20 rfl) rfl
theorem q531 : (Jvm.Cond.static ({ cls := "jdk/internal/util/ArraysSupport", name := "newLength", desc := "(III)I" } : Jvm.MethodName)) ∈ lw_all := lw_g (lw_at lw_m2 155 rfl) rfl
theorem q532 : (Jvm.Cond.code ({ cls := "jdk/internal/util/ArraysSupport", name := "newLength", desc := "(III)I" } : Jvm.MethodName) prog_75_method_27_code (4 : Nat) (Option.some Jvm.ClassFile.FieldType.int)) ∈ lw_all := lw_g (lw_at lw_m2 156 rfl) rfl
theorem q533 : (Jvm.Cond.methodLink "jdk/internal/util/ArraysSupport" (194 : Nat) ({ cls := "java/lang/Math", name := "max", desc := "(II)I" } : Jvm.MethodName)) ∈ lw_all := lw_g (lw_at lw_m2 157 rfl) rfl
theorem q536 : (Jvm.Cond.constant "jdk/internal/util/ArraysSupport" (200 : Nat) (2147483639 : Int32)) ∈ lw_all := lw_g (lw_at lw_m2 160 rfl) rfl
theorem q537 : (Jvm.Cond.methodLink "jdk/internal/util/ArraysSupport" (201 : Nat) ({ cls := "jdk/internal/util/ArraysSupport", name := "hugeLength", desc := "(II)I" } : Jvm.MethodName)) ∈ lw_all := lw_g (lw_at lw_m2 161 rfl) rfl
theorem q538 : (Jvm.Cond.static ({ cls := "jdk/internal/util/ArraysSupport", name := "hugeLength", desc := "(II)I" } : Jvm.MethodName)) ∈ lw_all := lw_g (lw_at lw_m2 162 rfl) rfl
theorem q539 : (Jvm.Cond.code ({ cls := "jdk/internal/util/ArraysSupport", name := "hugeLength", desc := "(II)I" } : Jvm.MethodName) prog_75_method_28_code (3 : Nat) (Option.some Jvm.ClassFile.FieldType.int)) ∈ lw_all := lw_g (lw_at lw_m2 163 rfl) rfl
theorem q1020 : (Jvm.Cond.static ({ cls := "jdk/internal/util/ArraysSupport", name := "vectorizedHashCode", desc := "(Ljava/lang/Object;IIII)I" } : Jvm.MethodName)) ∈ lw_all := lw_g (lw_at lw_m4 164 rfl) rfl
theorem q1021 : (Jvm.Cond.code ({ cls := "jdk/internal/util/ArraysSupport", name := "vectorizedHashCode", desc := "(Ljava/lang/Object;IIII)I" } : Jvm.MethodName) prog_75_method_4_code (5 : Nat) (Option.some Jvm.ClassFile.FieldType.int)) ∈ lw_all := lw_g (lw_at lw_m4 165 rfl) rfl
theorem q1022 : (Jvm.Cond.classLink "jdk/internal/util/ArraysSupport" (60 : Nat) "[B") ∈ lw_all := lw_g (lw_at lw_m4 166 rfl) rfl
theorem q1023 : (Jvm.Cond.methodLink "jdk/internal/util/ArraysSupport" (62 : Nat) ({ cls := "jdk/internal/util/ArraysSupport", name := "signedHashCode", desc := "(I[BII)I" } : Jvm.MethodName)) ∈ lw_all := lw_g (lw_at lw_m4 167 rfl) rfl
theorem q1024 : (Jvm.Cond.static ({ cls := "jdk/internal/util/ArraysSupport", name := "signedHashCode", desc := "(I[BII)I" } : Jvm.MethodName)) ∈ lw_all := lw_g (lw_at lw_m4 168 rfl) rfl
theorem q1025 : (Jvm.Cond.code ({ cls := "jdk/internal/util/ArraysSupport", name := "signedHashCode", desc := "(I[BII)I" } : Jvm.MethodName) prog_75_method_5_code (6 : Nat) (Option.some Jvm.ClassFile.FieldType.int)) ∈ lw_all := lw_g (lw_at lw_m4 169 rfl) rfl
theorem q1026 : (Jvm.Cond.methodLink "jdk/internal/util/ArraysSupport" (66 : Nat) ({ cls := "jdk/internal/util/ArraysSupport", name := "utf16hashCode", desc := "(I[BII)I" } : Jvm.MethodName)) ∈ lw_all := lw_g (lw_at lw_m4 170 rfl) rfl
theorem q1027 : (Jvm.Cond.static ({ cls := "jdk/internal/util/ArraysSupport", name := "utf16hashCode", desc := "(I[BII)I" } : Jvm.MethodName)) ∈ lw_all := lw_g (lw_at lw_m4 171 rfl) rfl
theorem q1028 : (Jvm.Cond.code ({ cls := "jdk/internal/util/ArraysSupport", name := "utf16hashCode", desc := "(I[BII)I" } : Jvm.MethodName) prog_75_method_10_code (6 : Nat) (Option.some Jvm.ClassFile.FieldType.int)) ∈ lw_all := lw_g (lw_at lw_m4 172 rfl) rfl
theorem q1029 : (Jvm.Cond.fieldLink "jdk/internal/util/ArraysSupport" (106 : Nat) "jdk/internal/util/ArraysSupport" "JLA" "Ljdk/internal/access/JavaLangAccess;") ∈ lw_all := lw_g (lw_at lw_m4 173 rfl) rfl
theorem q1030 : (Jvm.Cond.laysStatic "jdk/internal/util/ArraysSupport" "JLA" "Ljdk/internal/access/JavaLangAccess;") ∈ lw_tbl := lw_at lw_m4 174 rfl
theorem q1031 : (Jvm.Cond.interfaceEntry "jdk/internal/util/ArraysSupport" (110 : Nat)) ∈ lw_tbl := lw_at lw_m4 175 rfl
theorem q1032 : (Jvm.Cond.methodLink "jdk/internal/util/ArraysSupport" (110 : Nat) ({ cls := "jdk/internal/access/JavaLangAccess", name := "getUTF16Char", desc := "([BI)C" } : Jvm.MethodName)) ∈ lw_all := lw_g (lw_at lw_m4 176 rfl) rfl
theorem q1042 : (Jvm.Cond.classLink "jdk/internal/util/ArraysSupport" (69 : Nat) "[C") ∈ lw_all := lw_g (lw_at lw_m4 186 rfl) rfl
theorem q1043 : (Jvm.Cond.methodLink "jdk/internal/util/ArraysSupport" (71 : Nat) ({ cls := "jdk/internal/util/ArraysSupport", name := "hashCode", desc := "(I[CII)I" } : Jvm.MethodName)) ∈ lw_all := lw_g (lw_at lw_m4 187 rfl) rfl
theorem q1044 : (Jvm.Cond.static ({ cls := "jdk/internal/util/ArraysSupport", name := "hashCode", desc := "(I[CII)I" } : Jvm.MethodName)) ∈ lw_all := lw_g (lw_at lw_m4 188 rfl) rfl
theorem q1045 : (Jvm.Cond.code ({ cls := "jdk/internal/util/ArraysSupport", name := "hashCode", desc := "(I[CII)I" } : Jvm.MethodName) prog_75_method_7_code (6 : Nat) (Option.some Jvm.ClassFile.FieldType.int)) ∈ lw_all := lw_g (lw_at lw_m4 189 rfl) rfl
theorem q1046 : (Jvm.Cond.methodLink "jdk/internal/util/ArraysSupport" (75 : Nat) ({ cls := "jdk/internal/util/ArraysSupport", name := "hashCode", desc := "(I[BII)I" } : Jvm.MethodName)) ∈ lw_all := lw_g (lw_at lw_m4 190 rfl) rfl
theorem q1047 : (Jvm.Cond.static ({ cls := "jdk/internal/util/ArraysSupport", name := "hashCode", desc := "(I[BII)I" } : Jvm.MethodName)) ∈ lw_all := lw_g (lw_at lw_m4 191 rfl) rfl
theorem q1048 : (Jvm.Cond.code ({ cls := "jdk/internal/util/ArraysSupport", name := "hashCode", desc := "(I[BII)I" } : Jvm.MethodName) prog_75_method_6_code (6 : Nat) (Option.some Jvm.ClassFile.FieldType.int)) ∈ lw_all := lw_g (lw_at lw_m4 192 rfl) rfl
theorem q1049 : (Jvm.Cond.classLink "jdk/internal/util/ArraysSupport" (77 : Nat) "[S") ∈ lw_all := lw_g (lw_at lw_m4 193 rfl) rfl
theorem q1050 : (Jvm.Cond.methodLink "jdk/internal/util/ArraysSupport" (79 : Nat) ({ cls := "jdk/internal/util/ArraysSupport", name := "hashCode", desc := "(I[SII)I" } : Jvm.MethodName)) ∈ lw_all := lw_g (lw_at lw_m4 194 rfl) rfl
theorem q1051 : (Jvm.Cond.static ({ cls := "jdk/internal/util/ArraysSupport", name := "hashCode", desc := "(I[SII)I" } : Jvm.MethodName)) ∈ lw_all := lw_g (lw_at lw_m4 195 rfl) rfl
theorem q1052 : (Jvm.Cond.code ({ cls := "jdk/internal/util/ArraysSupport", name := "hashCode", desc := "(I[SII)I" } : Jvm.MethodName) prog_75_method_8_code (6 : Nat) (Option.some Jvm.ClassFile.FieldType.int)) ∈ lw_all := lw_g (lw_at lw_m4 196 rfl) rfl
theorem q1053 : (Jvm.Cond.classLink "jdk/internal/util/ArraysSupport" (82 : Nat) "[I") ∈ lw_all := lw_g (lw_at lw_m4 197 rfl) rfl
theorem q1054 : (Jvm.Cond.methodLink "jdk/internal/util/ArraysSupport" (84 : Nat) ({ cls := "jdk/internal/util/ArraysSupport", name := "hashCode", desc := "(I[III)I" } : Jvm.MethodName)) ∈ lw_all := lw_g (lw_at lw_m4 198 rfl) rfl
theorem q1055 : (Jvm.Cond.static ({ cls := "jdk/internal/util/ArraysSupport", name := "hashCode", desc := "(I[III)I" } : Jvm.MethodName)) ∈ lw_all := lw_g (lw_at lw_m4 199 rfl) rfl
theorem q1056 : (Jvm.Cond.code ({ cls := "jdk/internal/util/ArraysSupport", name := "hashCode", desc := "(I[III)I" } : Jvm.MethodName) prog_75_method_9_code (6 : Nat) (Option.some Jvm.ClassFile.FieldType.int)) ∈ lw_all := lw_g (lw_at lw_m4 200 rfl) rfl
theorem q1057 : (Jvm.Cond.classLink "jdk/internal/util/ArraysSupport" (87 : Nat) "java/lang/IllegalArgumentException") ∈ lw_all := lw_g (lw_at lw_m4 201 rfl) rfl
theorem q1058 : (Jvm.Cond.classLink "jdk/internal/util/ArraysSupport" (89 : Nat) "java/lang/StringBuilder") ∈ lw_all := lw_g (lw_at lw_m4 202 rfl) rfl
theorem q1059 : (Jvm.Cond.methodLink "jdk/internal/util/ArraysSupport" (91 : Nat) ({ cls := "java/lang/StringBuilder", name := "<init>", desc := "()V" } : Jvm.MethodName)) ∈ lw_all := lw_g (lw_at lw_m4 203 rfl) rfl
theorem q1060 : (Jvm.Cond.stringRef "jdk/internal/util/ArraysSupport" (92 : Nat) "unrecognized basic type: ") ∈ lw_tbl := lw_at lw_m4 204 rfl
theorem q1061 : (Jvm.Cond.methodLink "jdk/internal/util/ArraysSupport" (94 : Nat) ({ cls := "java/lang/StringBuilder", name := "append", desc := "(Ljava/lang/String;)Ljava/lang/StringBuilder;" } : Jvm.MethodName)) ∈ lw_all := lw_g (lw_at lw_m4 205 rfl) rfl
theorem q1062 : (Jvm.Cond.methodLink "jdk/internal/util/ArraysSupport" (98 : Nat) ({ cls := "java/lang/StringBuilder", name := "append", desc := "(I)Ljava/lang/StringBuilder;" } : Jvm.MethodName)) ∈ lw_all := lw_g (lw_at lw_m4 206 rfl) rfl
theorem q1063 : (Jvm.Cond.methodLink "jdk/internal/util/ArraysSupport" (101 : Nat) ({ cls := "java/lang/StringBuilder", name := "toString", desc := "()Ljava/lang/String;" } : Jvm.MethodName)) ∈ lw_all := lw_g (lw_at lw_m4 207 rfl) rfl
theorem q1064 : (Jvm.Cond.methodLink "jdk/internal/util/ArraysSupport" (105 : Nat) ({ cls := "java/lang/IllegalArgumentException", name := "<init>", desc := "(Ljava/lang/String;)V" } : Jvm.MethodName)) ∈ lw_all := lw_g (lw_at lw_m4 208 rfl) rfl
theorem q157 : (Jvm.Cond.initialized "java/lang/Math") ∈ lw_all := lw_g (lw_at lw_m1 21 rfl) rfl
theorem q534 : (Jvm.Cond.static ({ cls := "java/lang/Math", name := "max", desc := "(II)I" } : Jvm.MethodName)) ∈ lw_all := lw_g (lw_at lw_m2 158 rfl) rfl
theorem q535 : (Jvm.Cond.code ({ cls := "java/lang/Math", name := "max", desc := "(II)I" } : Jvm.MethodName) prog_31_method_65_code (2 : Nat) (Option.some Jvm.ClassFile.FieldType.int)) ∈ lw_all := lw_g (lw_at lw_m2 159 rfl) rfl
theorem q552 : (Jvm.Cond.static ({ cls := "java/lang/Math", name := "min", desc := "(II)I" } : Jvm.MethodName)) ∈ lw_all := lw_g (lw_at lw_m2 176 rfl) rfl
theorem q553 : (Jvm.Cond.code ({ cls := "java/lang/Math", name := "min", desc := "(II)I" } : Jvm.MethodName) prog_31_method_69_code (2 : Nat) (Option.some Jvm.ClassFile.FieldType.int)) ∈ lw_all := lw_g (lw_at lw_m2 177 rfl) rfl
theorem q1378 : (Jvm.Cond.static ({ cls := "java/lang/Math", name := "abs", desc := "(I)I" } : Jvm.MethodName)) ∈ lw_all := lw_g (lw_at lw_m6 42 rfl) rfl
theorem q1379 : (Jvm.Cond.code ({ cls := "java/lang/Math", name := "abs", desc := "(I)I" } : Jvm.MethodName) prog_31_method_59_code (1 : Nat) (Option.some Jvm.ClassFile.FieldType.int)) ∈ lw_all := lw_g (lw_at lw_m6 43 rfl) rfl
theorem q2400 : (Jvm.Cond.static ({ cls := "java/lang/Math", name := "floorMod", desc := "(II)I" } : Jvm.MethodName)) ∈ lw_all := lw_g (lw_at lw_m10 104 rfl) rfl
theorem q2401 : (Jvm.Cond.code ({ cls := "java/lang/Math", name := "floorMod", desc := "(II)I" } : Jvm.MethodName) prog_31_method_50_code (3 : Nat) (Option.some Jvm.ClassFile.FieldType.int)) ∈ lw_all := lw_g (lw_at lw_m10 105 rfl) rfl
theorem q3413 : (Jvm.Cond.static ({ cls := "java/lang/Math", name := "max", desc := "(JJ)J" } : Jvm.MethodName)) ∈ lw_all := lw_g (lw_at lw_m14 157 rfl) rfl
theorem q3414 : (Jvm.Cond.code ({ cls := "java/lang/Math", name := "max", desc := "(JJ)J" } : Jvm.MethodName) prog_31_method_66_code (4 : Nat) (Option.some Jvm.ClassFile.FieldType.long)) ∈ lw_all := lw_g (lw_at lw_m14 158 rfl) rfl
theorem q158 : (Jvm.Cond.initialized "java/util/Arrays") ∈ lw_all := lw_g (lw_at lw_m1 22 rfl) rfl
theorem q542 : (Jvm.Cond.static ({ cls := "java/util/Arrays", name := "copyOf", desc := "([BI)[B" } : Jvm.MethodName)) ∈ lw_all := lw_g (lw_at lw_m2 166 rfl) rfl
theorem q543 : (Jvm.Cond.code ({ cls := "java/util/Arrays", name := "copyOf", desc := "([BI)[B" } : Jvm.MethodName) prog_53_method_121_code (3 : Nat) (Option.some (Jvm.ClassFile.FieldType.array Jvm.ClassFile.FieldType.byte))) ∈ lw_all := lw_g (lw_at lw_m2 167 rfl) rfl
theorem q544 : (Jvm.Cond.methodLink "java/util/Arrays" (310 : Nat) ({ cls := "[B", name := "clone", desc := "()Ljava/lang/Object;" } : Jvm.MethodName)) ∈ lw_all := lw_g (lw_at lw_m2 168 rfl) rfl
theorem q550 : (Jvm.Cond.classLink "java/util/Arrays" (311 : Nat) "[B") ∈ lw_all := lw_g (lw_at lw_m2 174 rfl) rfl
theorem q551 : (Jvm.Cond.methodLink "java/util/Arrays" (304 : Nat) ({ cls := "java/lang/Math", name := "min", desc := "(II)I" } : Jvm.MethodName)) ∈ lw_all := lw_g (lw_at lw_m2 175 rfl) rfl
theorem q554 : (Jvm.Cond.methodLink "java/util/Arrays" (150 : Nat) ({ cls := "java/lang/System", name := "arraycopy", desc := "(Ljava/lang/Object;ILjava/lang/Object;II)V" } : Jvm.MethodName)) ∈ lw_all := lw_g (lw_at lw_m2 178 rfl) rfl
theorem q683 : (Jvm.Cond.static ({ cls := "java/util/Arrays", name := "copyOfRange", desc := "([BII)[B" } : Jvm.MethodName)) ∈ lw_all := lw_g (lw_at lw_m3 67 rfl) rfl
theorem q684 : (Jvm.Cond.code ({ cls := "java/util/Arrays", name := "copyOfRange", desc := "([BII)[B" } : Jvm.MethodName) prog_53_method_132_code (3 : Nat) (Option.some (Jvm.ClassFile.FieldType.array Jvm.ClassFile.FieldType.byte))) ∈ lw_all := lw_g (lw_at lw_m3 68 rfl) rfl
theorem q685 : (Jvm.Cond.methodLink "java/util/Arrays" (339 : Nat) ({ cls := "java/util/Arrays", name := "copyOfRangeByte", desc := "([BII)[B" } : Jvm.MethodName)) ∈ lw_all := lw_g (lw_at lw_m3 69 rfl) rfl
theorem q686 : (Jvm.Cond.static ({ cls := "java/util/Arrays", name := "copyOfRangeByte", desc := "([BII)[B" } : Jvm.MethodName)) ∈ lw_all := lw_g (lw_at lw_m3 70 rfl) rfl
theorem q687 : (Jvm.Cond.code ({ cls := "java/util/Arrays", name := "copyOfRangeByte", desc := "([BII)[B" } : Jvm.MethodName) prog_53_method_133_code (5 : Nat) (Option.some (Jvm.ClassFile.FieldType.array Jvm.ClassFile.FieldType.byte))) ∈ lw_all := lw_g (lw_at lw_m3 71 rfl) rfl
theorem q688 : (Jvm.Cond.methodLink "java/util/Arrays" (343 : Nat) ({ cls := "java/util/Arrays", name := "checkLength", desc := "(II)V" } : Jvm.MethodName)) ∈ lw_all := lw_g (lw_at lw_m3 72 rfl) rfl
theorem q689 : (Jvm.Cond.static ({ cls := "java/util/Arrays", name := "checkLength", desc := "(II)V" } : Jvm.MethodName)) ∈ lw_all := lw_g (lw_at lw_m3 73 rfl) rfl
theorem q690 : (Jvm.Cond.code ({ cls := "java/util/Arrays", name := "checkLength", desc := "(II)V" } : Jvm.MethodName) prog_53_method_131_code (2 : Nat) (Option.none : Option Jvm.ClassFile.FieldType)) ∈ lw_all := lw_g (lw_at lw_m3 74 rfl) rfl
theorem q691 : (Jvm.Cond.classLink "java/util/Arrays" (43 : Nat) "java/lang/IllegalArgumentException") ∈ lw_all := lw_g (lw_at lw_m3 75 rfl) rfl
theorem q692 : (Jvm.Cond.classLink "java/util/Arrays" (45 : Nat) "java/lang/StringBuilder") ∈ lw_all := lw_g (lw_at lw_m3 76 rfl) rfl
theorem q693 : (Jvm.Cond.methodLink "java/util/Arrays" (47 : Nat) ({ cls := "java/lang/StringBuilder", name := "<init>", desc := "()V" } : Jvm.MethodName)) ∈ lw_all := lw_g (lw_at lw_m3 77 rfl) rfl
theorem q694 : (Jvm.Cond.methodLink "java/util/Arrays" (54 : Nat) ({ cls := "java/lang/StringBuilder", name := "append", desc := "(I)Ljava/lang/StringBuilder;" } : Jvm.MethodName)) ∈ lw_all := lw_g (lw_at lw_m3 78 rfl) rfl
theorem q695 : (Jvm.Cond.stringRef "java/util/Arrays" (337 : Nat) " > ") ∈ lw_tbl := lw_at lw_m3 79 rfl
theorem q696 : (Jvm.Cond.methodLink "java/util/Arrays" (50 : Nat) ({ cls := "java/lang/StringBuilder", name := "append", desc := "(Ljava/lang/String;)Ljava/lang/StringBuilder;" } : Jvm.MethodName)) ∈ lw_all := lw_g (lw_at lw_m3 80 rfl) rfl
theorem q697 : (Jvm.Cond.methodLink "java/util/Arrays" (61 : Nat) ({ cls := "java/lang/StringBuilder", name := "toString", desc := "()Ljava/lang/String;" } : Jvm.MethodName)) ∈ lw_all := lw_g (lw_at lw_m3 81 rfl) rfl
theorem q698 : (Jvm.Cond.methodLink "java/util/Arrays" (65 : Nat) ({ cls := "java/lang/IllegalArgumentException", name := "<init>", desc := "(Ljava/lang/String;)V" } : Jvm.MethodName)) ∈ lw_all := lw_g (lw_at lw_m3 82 rfl) rfl
theorem q1136 : (Jvm.Cond.static ({ cls := "java/util/Arrays", name := "copyOf", desc := "([Ljava/lang/Object;I)[Ljava/lang/Object;" } : Jvm.MethodName)) ∈ lw_all := lw_g (lw_at lw_m5 40 rfl) rfl
theorem q1137 : (Jvm.Cond.code ({ cls := "java/util/Arrays", name := "copyOf", desc := "([Ljava/lang/Object;I)[Ljava/lang/Object;" } : Jvm.MethodName) prog_53_method_119_code (2 : Nat) (Option.some (Jvm.ClassFile.FieldType.array (Jvm.ClassFile.FieldType.object "java/lang/Object")))) ∈ lw_all := lw_g (lw_at lw_m5 41 rfl) rfl
theorem q1138 : (Jvm.Cond.methodLink "java/util/Arrays" (86 : Nat) ({ cls := "java/lang/Object", name := "getClass", desc := "()Ljava/lang/Class;" } : Jvm.MethodName)) ∈ lw_all := lw_g (lw_at lw_m5 42 rfl) rfl
theorem q1172 : (Jvm.Cond.methodLink "java/util/Arrays" (300 : Nat) ({ cls := "java/util/Arrays", name := "copyOf", desc := "([Ljava/lang/Object;ILjava/lang/Class;)[Ljava/lang/Object;" } : Jvm.MethodName)) ∈ lw_all := lw_g (lw_at lw_m5 76 rfl) rfl
theorem q1173 : (Jvm.Cond.static ({ cls := "java/util/Arrays", name := "copyOf", desc := "([Ljava/lang/Object;ILjava/lang/Class;)[Ljava/lang/Object;" } : Jvm.MethodName)) ∈ lw_all := lw_g (lw_at lw_m5 77 rfl) rfl
theorem q1174 : (Jvm.Cond.code ({ cls := "java/util/Arrays", name := "copyOf", desc := "([Ljava/lang/Object;ILjava/lang/Class;)[Ljava/lang/Object;" } : Jvm.MethodName) prog_53_method_120_code (4 : Nat) (Option.some (Jvm.ClassFile.FieldType.array (Jvm.ClassFile.FieldType.object "java/lang/Object")))) ∈ lw_all := lw_g (lw_at lw_m5 78 rfl) rfl
theorem q1175 : (Jvm.Cond.classLink "java/util/Arrays" (110 : Nat) "[Ljava/lang/Object;") ∈ lw_all := lw_g (lw_at lw_m5 79 rfl) rfl
theorem q1176 : (Jvm.Cond.classLink "java/util/Arrays" (2 : Nat) "java/lang/Object") ∈ lw_all := lw_g (lw_at lw_m5 80 rfl) rfl
theorem q1486 : (Jvm.Cond.static ({ cls := "java/util/Arrays", name := "copyOf", desc := "([JI)[J" } : Jvm.MethodName)) ∈ lw_all := lw_g (lw_at lw_m6 150 rfl) rfl
theorem q1487 : (Jvm.Cond.code ({ cls := "java/util/Arrays", name := "copyOf", desc := "([JI)[J" } : Jvm.MethodName) prog_53_method_124_code (3 : Nat) (Option.some (Jvm.ClassFile.FieldType.array Jvm.ClassFile.FieldType.long))) ∈ lw_all := lw_g (lw_at lw_m6 151 rfl) rfl
theorem q1488 : (Jvm.Cond.methodLink "java/util/Arrays" (319 : Nat) ({ cls := "[J", name := "clone", desc := "()Ljava/lang/Object;" } : Jvm.MethodName)) ∈ lw_all := lw_g (lw_at lw_m6 152 rfl) rfl
theorem q1492 : (Jvm.Cond.classLink "java/util/Arrays" (320 : Nat) "[J") ∈ lw_all := lw_g (lw_at lw_m6 156 rfl) rfl
theorem q2626 : (Jvm.Cond.static ({ cls := "java/util/Arrays", name := "fill", desc := "([BIIB)V" } : Jvm.MethodName)) ∈ lw_all := lw_g (lw_at lw_m11 90 rfl) rfl
theorem q2627 : (Jvm.Cond.code ({ cls := "java/util/Arrays", name := "fill", desc := "([BIIB)V" } : Jvm.MethodName) prog_53_method_110_code (5 : Nat) (Option.none : Option Jvm.ClassFile.FieldType)) ∈ lw_all := lw_g (lw_at lw_m11 91 rfl) rfl
theorem q2628 : (Jvm.Cond.methodLink "java/util/Arrays" (13 : Nat) ({ cls := "java/util/Arrays", name := "rangeCheck", desc := "(III)V" } : Jvm.MethodName)) ∈ lw_all := lw_g (lw_at lw_m11 92 rfl) rfl
theorem q2629 : (Jvm.Cond.static ({ cls := "java/util/Arrays", name := "rangeCheck", desc := "(III)V" } : Jvm.MethodName)) ∈ lw_all := lw_g (lw_at lw_m11 93 rfl) rfl
theorem q2630 : (Jvm.Cond.code ({ cls := "java/util/Arrays", name := "rangeCheck", desc := "(III)V" } : Jvm.MethodName) prog_53_method_30_code (3 : Nat) (Option.none : Option Jvm.ClassFile.FieldType)) ∈ lw_all := lw_g (lw_at lw_m11 94 rfl) rfl
theorem q2631 : (Jvm.Cond.stringRef "java/util/Arrays" (48 : Nat) "fromIndex(") ∈ lw_tbl := lw_at lw_m11 95 rfl
theorem q2632 : (Jvm.Cond.stringRef "java/util/Arrays" (57 : Nat) ") > toIndex(") ∈ lw_tbl := lw_at lw_m11 96 rfl
theorem q2633 : (Jvm.Cond.stringRef "java/util/Arrays" (59 : Nat) ")") ∈ lw_tbl := lw_at lw_m11 97 rfl
theorem q2634 : (Jvm.Cond.classLink "java/util/Arrays" (68 : Nat) "java/lang/ArrayIndexOutOfBoundsException") ∈ lw_all := lw_g (lw_at lw_m11 98 rfl) rfl
theorem q2635 : (Jvm.Cond.methodLink "java/util/Arrays" (70 : Nat) ({ cls := "java/lang/ArrayIndexOutOfBoundsException", name := "<init>", desc := "(I)V" } : Jvm.MethodName)) ∈ lw_all := lw_g (lw_at lw_m11 99 rfl) rfl
theorem q160 : (Jvm.Cond.initialized "jdk/internal/util/Preconditions") ∈ lw_all := lw_g (lw_at lw_m1 24 rfl) rfl
theorem q575 : (Jvm.Cond.laysStatic "jdk/internal/util/Preconditions" "SIOOBE_FORMATTER" "Ljava/util/function/BiFunction;") ∈ lw_tbl := lw_at lw_m2 199 rfl
theorem q577 : (Jvm.Cond.static ({ cls := "jdk/internal/util/Preconditions", name := "checkFromToIndex", desc := "(IIILjava/util/function/BiFunction;)I" } : Jvm.MethodName)) ∈ lw_all := lw_g (lw_at lw_m2 201 rfl) rfl
theorem q578 : (Jvm.Cond.code ({ cls := "jdk/internal/util/Preconditions", name := "checkFromToIndex", desc := "(IIILjava/util/function/BiFunction;)I" } : Jvm.MethodName) prog_76_method_12_code (4 : Nat) (Option.some Jvm.ClassFile.FieldType.int)) ∈ lw_all := lw_g (lw_at lw_m2 202 rfl) rfl
theorem q623 : (Jvm.Cond.static ({ cls := "jdk/internal/util/Preconditions", name := "checkFromIndexSize", desc := "(IIILjava/util/function/BiFunction;)I" } : Jvm.MethodName)) ∈ lw_all := lw_g (lw_at lw_m3 7 rfl) rfl
theorem q624 : (Jvm.Cond.code ({ cls := "jdk/internal/util/Preconditions", name := "checkFromIndexSize", desc := "(IIILjava/util/function/BiFunction;)I" } : Jvm.MethodName) prog_76_method_13_code (4 : Nat) (Option.some Jvm.ClassFile.FieldType.int)) ∈ lw_all := lw_g (lw_at lw_m3 8 rfl) rfl
theorem q924 : (Jvm.Cond.static ({ cls := "jdk/internal/util/Preconditions", name := "checkIndex", desc := "(IILjava/util/function/BiFunction;)I" } : Jvm.MethodName)) ∈ lw_all := lw_g (lw_at lw_m4 68 rfl) rfl
theorem q925 : (Jvm.Cond.code ({ cls := "jdk/internal/util/Preconditions", name := "checkIndex", desc := "(IILjava/util/function/BiFunction;)I" } : Jvm.MethodName) prog_76_method_11_code (3 : Nat) (Option.some Jvm.ClassFile.FieldType.int)) ∈ lw_all := lw_g (lw_at lw_m4 69 rfl) rfl
theorem q161 : (Jvm.Cond.initialized "java/lang/StringLatin1") ∈ lw_all := lw_g (lw_at lw_m1 25 rfl) rfl
theorem q611 : (Jvm.Cond.static ({ cls := "java/lang/StringLatin1", name := "inflate", desc := "([BI[BII)V" } : Jvm.MethodName)) ∈ lw_all := lw_g (lw_at lw_m2 235 rfl) rfl
theorem q612 : (Jvm.Cond.code ({ cls := "java/lang/StringLatin1", name := "inflate", desc := "([BI[BII)V" } : Jvm.MethodName) prog_37_method_50_code (5 : Nat) (Option.none : Option Jvm.ClassFile.FieldType)) ∈ lw_all := lw_g (lw_at lw_m2 236 rfl) rfl
theorem q613 : (Jvm.Cond.methodLink "java/lang/StringLatin1" (240 : Nat) ({ cls := "java/lang/StringUTF16", name := "inflate", desc := "([BI[BII)V" } : Jvm.MethodName)) ∈ lw_all := lw_g (lw_at lw_m2 237 rfl) rfl
theorem q912 : (Jvm.Cond.static ({ cls := "java/lang/StringLatin1", name := "canEncode", desc := "(C)Z" } : Jvm.MethodName)) ∈ lw_all := lw_g (lw_at lw_m4 56 rfl) rfl
theorem q913 : (Jvm.Cond.code ({ cls := "java/lang/StringLatin1", name := "canEncode", desc := "(C)Z" } : Jvm.MethodName) prog_37_method_3_code (1 : Nat) (Option.some Jvm.ClassFile.FieldType.boolean)) ∈ lw_all := lw_g (lw_at lw_m4 57 rfl) rfl
theorem q954 : (Jvm.Cond.static ({ cls := "java/lang/StringLatin1", name := "equals", desc := "([B[B)Z" } : Jvm.MethodName)) ∈ lw_all := lw_g (lw_at lw_m4 98 rfl) rfl
theorem q955 : (Jvm.Cond.code ({ cls := "java/lang/StringLatin1", name := "equals", desc := "([B[B)Z" } : Jvm.MethodName) prog_37_method_13_code (3 : Nat) (Option.some Jvm.ClassFile.FieldType.boolean)) ∈ lw_all := lw_g (lw_at lw_m4 99 rfl) rfl
theorem q1017 : (Jvm.Cond.static ({ cls := "java/lang/StringLatin1", name := "hashCode", desc := "([B)I" } : Jvm.MethodName)) ∈ lw_all := lw_g (lw_at lw_m4 161 rfl) rfl
theorem q1018 : (Jvm.Cond.code ({ cls := "java/lang/StringLatin1", name := "hashCode", desc := "([B)I" } : Jvm.MethodName) prog_37_method_21_code (1 : Nat) (Option.some Jvm.ClassFile.FieldType.int)) ∈ lw_all := lw_g (lw_at lw_m4 162 rfl) rfl
theorem q1019 : (Jvm.Cond.methodLink "java/lang/StringLatin1" (84 : Nat) ({ cls := "jdk/internal/util/ArraysSupport", name := "vectorizedHashCode", desc := "(Ljava/lang/Object;IIII)I" } : Jvm.MethodName)) ∈ lw_all := lw_g (lw_at lw_m4 163 rfl) rfl
theorem q2623 : (Jvm.Cond.static ({ cls := "java/lang/StringLatin1", name := "fillNull", desc := "([BII)V" } : Jvm.MethodName)) ∈ lw_all := lw_g (lw_at lw_m11 87 rfl) rfl
theorem q2624 : (Jvm.Cond.code ({ cls := "java/lang/StringLatin1", name := "fillNull", desc := "([BII)V" } : Jvm.MethodName) prog_37_method_48_code (3 : Nat) (Option.none : Option Jvm.ClassFile.FieldType)) ∈ lw_all := lw_g (lw_at lw_m11 88 rfl) rfl
theorem q2625 : (Jvm.Cond.methodLink "java/lang/StringLatin1" (236 : Nat) ({ cls := "java/util/Arrays", name := "fill", desc := "([BIIB)V" } : Jvm.MethodName)) ∈ lw_all := lw_g (lw_at lw_m11 89 rfl) rfl
theorem q3076 : (Jvm.Cond.static ({ cls := "java/lang/StringLatin1", name := "charAt", desc := "([BI)C" } : Jvm.MethodName)) ∈ lw_all := lw_g (lw_at lw_m13 60 rfl) rfl
theorem q3077 : (Jvm.Cond.code ({ cls := "java/lang/StringLatin1", name := "charAt", desc := "([BI)C" } : Jvm.MethodName) prog_37_method_2_code (2 : Nat) (Option.some Jvm.ClassFile.FieldType.char)) ∈ lw_all := lw_g (lw_at lw_m13 61 rfl) rfl
theorem q3078 : (Jvm.Cond.methodLink "java/lang/StringLatin1" (9 : Nat) ({ cls := "java/lang/String", name := "checkIndex", desc := "(II)V" } : Jvm.MethodName)) ∈ lw_all := lw_g (lw_at lw_m13 62 rfl) rfl
theorem q162 : (Jvm.Cond.initialized "java/lang/Number") ∈ lw_all := lw_g (lw_at lw_m1 26 rfl) rfl
theorem q2314 : (Jvm.Cond.instanceMethod ({ cls := "java/lang/Number", name := "<init>", desc := "()V" } : Jvm.MethodName)) ∈ lw_all := lw_g (lw_at lw_m10 18 rfl) rfl
theorem q2315 : (Jvm.Cond.code ({ cls := "java/lang/Number", name := "<init>", desc := "()V" } : Jvm.MethodName) prog_32_method_1_code (1 : Nat) (Option.none : Option Jvm.ClassFile.FieldType)) ∈ lw_all := lw_g (lw_at lw_m10 19 rfl) rfl
theorem q2316 : (Jvm.Cond.methodLink "java/lang/Number" (1 : Nat) ({ cls := "java/lang/Object", name := "<init>", desc := "()V" } : Jvm.MethodName)) ∈ lw_all := lw_g (lw_at lw_m10 20 rfl) rfl
theorem q163 : (Jvm.Cond.initialized "java/lang/Integer") ∈ lw_all := lw_g (lw_at lw_m1 27 rfl) rfl
theorem q639 : (Jvm.Cond.static ({ cls := "java/lang/Integer", name := "stringSize", desc := "(I)I" } : Jvm.MethodName)) ∈ lw_all := lw_g (lw_at lw_m3 23 rfl) rfl
theorem q640 : (Jvm.Cond.code ({ cls := "java/lang/Integer", name := "stringSize", desc := "(I)I" } : Jvm.MethodName) prog_27_method_13_code (4 : Nat) (Option.some Jvm.ClassFile.FieldType.int)) ∈ lw_all := lw_g (lw_at lw_m3 24 rfl) rfl
theorem q642 : (Jvm.Cond.static ({ cls := "java/lang/Integer", name := "getChars", desc := "(II[B)I" } : Jvm.MethodName)) ∈ lw_all := lw_g (lw_at lw_m3 26 rfl) rfl
theorem q643 : (Jvm.Cond.code ({ cls := "java/lang/Integer", name := "getChars", desc := "(II[B)I" } : Jvm.MethodName) prog_27_method_12_code (7 : Nat) (Option.some Jvm.ClassFile.FieldType.int)) ∈ lw_all := lw_g (lw_at lw_m3 27 rfl) rfl
theorem q644 : (Jvm.Cond.fieldLink "java/lang/Integer" (83 : Nat) "java/lang/Integer" "DigitOnes" "[B") ∈ lw_all := lw_g (lw_at lw_m3 28 rfl) rfl
theorem q645 : (Jvm.Cond.laysStatic "java/lang/Integer" "DigitOnes" "[B") ∈ lw_tbl := lw_at lw_m3 29 rfl
theorem q646 : (Jvm.Cond.fieldLink "java/lang/Integer" (87 : Nat) "java/lang/Integer" "DigitTens" "[B") ∈ lw_all := lw_g (lw_at lw_m3 30 rfl) rfl
theorem q647 : (Jvm.Cond.laysStatic "java/lang/Integer" "DigitTens" "[B") ∈ lw_tbl := lw_at lw_m3 31 rfl
theorem q1155 : (Jvm.Cond.selects "java/lang/Integer" ({ cls := "java/lang/Object", name := "getClass", desc := "()Ljava/lang/Class;" } : Jvm.MethodName) ({ cls := "java/lang/Object", name := "getClass", desc := "()Ljava/lang/Class;" } : Jvm.MethodName)) ∈ lw_all := lw_g (lw_at lw_m5 59 rfl) rfl
theorem q1318 : (Jvm.Cond.selects "java/lang/Integer" ({ cls := "java/lang/Object", name := "equals", desc := "(Ljava/lang/Object;)Z" } : Jvm.MethodName) ({ cls := "java/lang/Integer", name := "equals", desc := "(Ljava/lang/Object;)Z" } : Jvm.MethodName)) ∈ lw_all := lw_g (lw_at lw_m5 222 rfl) rfl
theorem q1319 : (Jvm.Cond.instanceMethod ({ cls := "java/lang/Integer", name := "equals", desc := "(Ljava/lang/Object;)Z" } : Jvm.MethodName)) ∈ lw_all := lw_g (lw_at lw_m5 223 rfl) rfl
theorem q1320 : (Jvm.Cond.code ({ cls := "java/lang/Integer", name := "equals", desc := "(Ljava/lang/Object;)Z" } : Jvm.MethodName) prog_27_method_34_code (2 : Nat) (Option.some Jvm.ClassFile.FieldType.boolean)) ∈ lw_all := lw_g (lw_at lw_m5 224 rfl) rfl
theorem q1321 : (Jvm.Cond.classLink "java/lang/Integer" (1 : Nat) "java/lang/Integer") ∈ lw_all := lw_g (lw_at lw_m5 225 rfl) rfl
theorem q1322 : (Jvm.Cond.methodLink "java/lang/Integer" (211 : Nat) ({ cls := "java/lang/Integer", name := "intValue", desc := "()I" } : Jvm.MethodName)) ∈ lw_all := lw_g (lw_at lw_m5 226 rfl) rfl
theorem q1323 : (Jvm.Cond.instanceMethod ({ cls := "java/lang/Integer", name := "intValue", desc := "()I" } : Jvm.MethodName)) ∈ lw_all := lw_g (lw_at lw_m5 227 rfl) rfl
theorem q1324 : (Jvm.Cond.selects "java/lang/Integer" ({ cls := "java/lang/Integer", name := "intValue", desc := "()I" } : Jvm.MethodName) ({ cls := "java/lang/Integer", name := "intValue", desc := "()I" } : Jvm.MethodName)) ∈ lw_all := lw_g (lw_at lw_m5 228 rfl) rfl
theorem q1325 : (Jvm.Cond.code ({ cls := "java/lang/Integer", name := "intValue", desc := "()I" } : Jvm.MethodName) prog_27_method_27_code (1 : Nat) (Option.some Jvm.ClassFile.FieldType.int)) ∈ lw_all := lw_g (lw_at lw_m5 229 rfl) rfl
theorem q1732 : (Jvm.Cond.static ({ cls := "java/lang/Integer", name := "numberOfTrailingZeros", desc := "(I)I" } : Jvm.MethodName)) ∈ lw_all := lw_g (lw_at lw_m7 156 rfl) rfl
theorem q1733 : (Jvm.Cond.code ({ cls := "java/lang/Integer", name := "numberOfTrailingZeros", desc := "(I)I" } : Jvm.MethodName) prog_27_method_48_code (2 : Nat) (Option.some Jvm.ClassFile.FieldType.int)) ∈ lw_all := lw_g (lw_at lw_m7 157 rfl) rfl
theorem q1734 : (Jvm.Cond.constant "java/lang/Integer" (264 : Nat) (65536 : Int32)) ∈ lw_all := lw_g (lw_at lw_m7 158 rfl) rfl
theorem q2303 : (Jvm.Cond.static ({ cls := "java/lang/Integer", name := "valueOf", desc := "(I)Ljava/lang/Integer;" } : Jvm.MethodName)) ∈ lw_all := lw_g (lw_at lw_m10 7 rfl) rfl
theorem q2304 : (Jvm.Cond.code ({ cls := "java/lang/Integer", name := "valueOf", desc := "(I)Ljava/lang/Integer;" } : Jvm.MethodName) prog_27_method_22_code (1 : Nat) (Option.some (Jvm.ClassFile.FieldType.object "java/lang/Integer"))) ∈ lw_all := lw_g (lw_at lw_m10 8 rfl) rfl
theorem q2305 : (Jvm.Cond.fieldLink "java/lang/Integer" (191 : Nat) "java/lang/Integer$IntegerCache" "high" "I") ∈ lw_all := lw_g (lw_at lw_m10 9 rfl) rfl
theorem q2307 : (Jvm.Cond.fieldLink "java/lang/Integer" (195 : Nat) "java/lang/Integer$IntegerCache" "cache" "[Ljava/lang/Integer;") ∈ lw_all := lw_g (lw_at lw_m10 11 rfl) rfl
theorem q2309 : (Jvm.Cond.instantiable "java/lang/Integer" (1 : Nat)) ∈ lw_all := lw_g (lw_at lw_m10 13 rfl) rfl
theorem q2310 : (Jvm.Cond.methodLink "java/lang/Integer" (199 : Nat) ({ cls := "java/lang/Integer", name := "<init>", desc := "(I)V" } : Jvm.MethodName)) ∈ lw_all := lw_g (lw_at lw_m10 14 rfl) rfl
theorem q2311 : (Jvm.Cond.instanceMethod ({ cls := "java/lang/Integer", name := "<init>", desc := "(I)V" } : Jvm.MethodName)) ∈ lw_all := lw_g (lw_at lw_m10 15 rfl) rfl
theorem q2312 : (Jvm.Cond.code ({ cls := "java/lang/Integer", name := "<init>", desc := "(I)V" } : Jvm.MethodName) prog_27_method_23_code (2 : Nat) (Option.none : Option Jvm.ClassFile.FieldType)) ∈ lw_all := lw_g (lw_at lw_m10 16 rfl) rfl
theorem q2313 : (Jvm.Cond.methodLink "java/lang/Integer" (202 : Nat) ({ cls := "java/lang/Number", name := "<init>", desc := "()V" } : Jvm.MethodName)) ∈ lw_all := lw_g (lw_at lw_m10 17 rfl) rfl
theorem q2317 : (Jvm.Cond.fieldLink "java/lang/Integer" (205 : Nat) "java/lang/Integer" "value" "I") ∈ lw_all := lw_g (lw_at lw_m10 21 rfl) rfl
theorem q2318 : (Jvm.Cond.laysFinal "java/lang/Integer" "java/lang/Integer" "value" "I") ∈ lw_all := lw_g (lw_at lw_m10 22 rfl) rfl
theorem q2319 : (Jvm.Cond.soleField "java/lang/Integer" "value") ∈ lw_all := lw_g (lw_at lw_m10 23 rfl) rfl
theorem q2320 : (Jvm.Cond.superclass "java/lang/Integer" "java/lang/Number") ∈ lw_all := lw_g (lw_at lw_m10 24 rfl) rfl
theorem q3689 : (Jvm.Cond.castable "java/lang/Integer" "java/lang/Object") ∈ lw_tbl := lw_at lw_m15 193 rfl
theorem q164 : (Jvm.Cond.initialized "java/util/BitSet") ∈ lw_all := lw_g (lw_at lw_m1 28 rfl) rfl
theorem q747 : (Jvm.Cond.instantiable "java/util/BitSet" (3 : Nat)) ∈ lw_all := lw_g (lw_at lw_m3 131 rfl) rfl
theorem q749 : (Jvm.Cond.instanceMethod ({ cls := "java/util/BitSet", name := "<init>", desc := "(I)V" } : Jvm.MethodName)) ∈ lw_all := lw_g (lw_at lw_m3 133 rfl) rfl
theorem q750 : (Jvm.Cond.code ({ cls := "java/util/BitSet", name := "<init>", desc := "(I)V" } : Jvm.MethodName) prog_54_method_5_code (2 : Nat) (Option.none : Option Jvm.ClassFile.FieldType)) ∈ lw_all := lw_g (lw_at lw_m3 134 rfl) rfl
theorem q751 : (Jvm.Cond.methodLink "java/util/BitSet" (21 : Nat) ({ cls := "java/lang/Object", name := "<init>", desc := "()V" } : Jvm.MethodName)) ∈ lw_all := lw_g (lw_at lw_m3 135 rfl) rfl
theorem q752 : (Jvm.Cond.methodLink "java/util/BitSet" (27 : Nat) ({ cls := "java/util/BitSet", name := "initWords", desc := "(I)V" } : Jvm.MethodName)) ∈ lw_all := lw_g (lw_at lw_m3 136 rfl) rfl
theorem q753 : (Jvm.Cond.privateMethod ({ cls := "java/util/BitSet", name := "initWords", desc := "(I)V" } : Jvm.MethodName)) ∈ lw_tbl := lw_at lw_m3 137 rfl
theorem q754 : (Jvm.Cond.instanceMethod ({ cls := "java/util/BitSet", name := "initWords", desc := "(I)V" } : Jvm.MethodName)) ∈ lw_all := lw_g (lw_at lw_m3 138 rfl) rfl
theorem q755 : (Jvm.Cond.code ({ cls := "java/util/BitSet", name := "initWords", desc := "(I)V" } : Jvm.MethodName) prog_54_method_6_code (2 : Nat) (Option.none : Option Jvm.ClassFile.FieldType)) ∈ lw_all := lw_g (lw_at lw_m3 139 rfl) rfl
theorem q756 : (Jvm.Cond.methodLink "java/util/BitSet" (52 : Nat) ({ cls := "java/util/BitSet", name := "wordIndex", desc := "(I)I" } : Jvm.MethodName)) ∈ lw_all := lw_g (lw_at lw_m3 140 rfl) rfl
theorem q757 : (Jvm.Cond.static ({ cls := "java/util/BitSet", name := "wordIndex", desc := "(I)I" } : Jvm.MethodName)) ∈ lw_all := lw_g (lw_at lw_m3 141 rfl) rfl
theorem q758 : (Jvm.Cond.code ({ cls := "java/util/BitSet", name := "wordIndex", desc := "(I)I" } : Jvm.MethodName) prog_54_method_1_code (1 : Nat) (Option.some Jvm.ClassFile.FieldType.int)) ∈ lw_all := lw_g (lw_at lw_m3 142 rfl) rfl
theorem q759 : (Jvm.Cond.fieldLink "java/util/BitSet" (11 : Nat) "java/util/BitSet" "words" "[J") ∈ lw_all := lw_g (lw_at lw_m3 143 rfl) rfl
theorem q760 : (Jvm.Cond.fieldLink "java/util/BitSet" (7 : Nat) "java/util/BitSet" "wordsInUse" "I") ∈ lw_all := lw_g (lw_at lw_m3 144 rfl) rfl
theorem q761 : (Jvm.Cond.fieldLink "java/util/BitSet" (24 : Nat) "java/util/BitSet" "sizeIsSticky" "Z") ∈ lw_all := lw_g (lw_at lw_m3 145 rfl) rfl
theorem q762 : (Jvm.Cond.lays "java/util/BitSet" "java/util/BitSet" "words" "[J") ∈ lw_all := lw_g (lw_at lw_m3 146 rfl) rfl
theorem q763 : (Jvm.Cond.soleField "java/util/BitSet" "words") ∈ lw_all := lw_g (lw_at lw_m3 147 rfl) rfl
theorem q764 : (Jvm.Cond.lays "java/util/BitSet" "java/util/BitSet" "wordsInUse" "I") ∈ lw_all := lw_g (lw_at lw_m3 148 rfl) rfl
theorem q765 : (Jvm.Cond.soleField "java/util/BitSet" "wordsInUse") ∈ lw_all := lw_g (lw_at lw_m3 149 rfl) rfl
theorem q766 : (Jvm.Cond.lays "java/util/BitSet" "java/util/BitSet" "sizeIsSticky" "Z") ∈ lw_all := lw_g (lw_at lw_m3 150 rfl) rfl
theorem q767 : (Jvm.Cond.soleField "java/util/BitSet" "sizeIsSticky") ∈ lw_all := lw_g (lw_at lw_m3 151 rfl) rfl
theorem q768 : (Jvm.Cond.superclass "java/util/BitSet" "java/lang/Object") ∈ lw_all := lw_g (lw_at lw_m3 152 rfl) rfl
theorem q1164 : (Jvm.Cond.selects "java/util/BitSet" ({ cls := "java/lang/Object", name := "getClass", desc := "()Ljava/lang/Class;" } : Jvm.MethodName) ({ cls := "java/lang/Object", name := "getClass", desc := "()Ljava/lang/Class;" } : Jvm.MethodName)) ∈ lw_all := lw_g (lw_at lw_m5 68 rfl) rfl
theorem q1455 : (Jvm.Cond.instanceMethod ({ cls := "java/util/BitSet", name := "get", desc := "(I)Z" } : Jvm.MethodName)) ∈ lw_all := lw_g (lw_at lw_m6 119 rfl) rfl
theorem q1456 : (Jvm.Cond.selects "java/util/BitSet" ({ cls := "java/util/BitSet", name := "get", desc := "(I)Z" } : Jvm.MethodName) ({ cls := "java/util/BitSet", name := "get", desc := "(I)Z" } : Jvm.MethodName)) ∈ lw_all := lw_g (lw_at lw_m6 120 rfl) rfl
theorem q1457 : (Jvm.Cond.code ({ cls := "java/util/BitSet", name := "get", desc := "(I)Z" } : Jvm.MethodName) prog_54_method_26_code (3 : Nat) (Option.some Jvm.ClassFile.FieldType.boolean)) ∈ lw_all := lw_g (lw_at lw_m6 121 rfl) rfl
theorem q1458 : (Jvm.Cond.classLink "java/util/BitSet" (142 : Nat) "java/lang/IndexOutOfBoundsException") ∈ lw_all := lw_g (lw_at lw_m6 122 rfl) rfl
theorem q1459 : (Jvm.Cond.classLink "java/util/BitSet" (33 : Nat) "java/lang/StringBuilder") ∈ lw_all := lw_g (lw_at lw_m6 123 rfl) rfl
theorem q1460 : (Jvm.Cond.methodLink "java/util/BitSet" (35 : Nat) ({ cls := "java/lang/StringBuilder", name := "<init>", desc := "()V" } : Jvm.MethodName)) ∈ lw_all := lw_g (lw_at lw_m6 124 rfl) rfl
theorem q1461 : (Jvm.Cond.stringRef "java/util/BitSet" (153 : Nat) "bitIndex < 0: ") ∈ lw_tbl := lw_at lw_m6 125 rfl
theorem q1462 : (Jvm.Cond.methodLink "java/util/BitSet" (38 : Nat) ({ cls := "java/lang/StringBuilder", name := "append", desc := "(Ljava/lang/String;)Ljava/lang/StringBuilder;" } : Jvm.MethodName)) ∈ lw_all := lw_g (lw_at lw_m6 126 rfl) rfl
theorem q1463 : (Jvm.Cond.methodLink "java/util/BitSet" (42 : Nat) ({ cls := "java/lang/StringBuilder", name := "append", desc := "(I)Ljava/lang/StringBuilder;" } : Jvm.MethodName)) ∈ lw_all := lw_g (lw_at lw_m6 127 rfl) rfl
theorem q1464 : (Jvm.Cond.methodLink "java/util/BitSet" (45 : Nat) ({ cls := "java/lang/StringBuilder", name := "toString", desc := "()Ljava/lang/String;" } : Jvm.MethodName)) ∈ lw_all := lw_g (lw_at lw_m6 128 rfl) rfl
theorem q1465 : (Jvm.Cond.methodLink "java/util/BitSet" (146 : Nat) ({ cls := "java/lang/IndexOutOfBoundsException", name := "<init>", desc := "(Ljava/lang/String;)V" } : Jvm.MethodName)) ∈ lw_all := lw_g (lw_at lw_m6 129 rfl) rfl
theorem q1466 : (Jvm.Cond.methodLink "java/util/BitSet" (56 : Nat) ({ cls := "java/util/BitSet", name := "checkInvariants", desc := "()V" } : Jvm.MethodName)) ∈ lw_all := lw_g (lw_at lw_m6 130 rfl) rfl
theorem q1467 : (Jvm.Cond.privateMethod ({ cls := "java/util/BitSet", name := "checkInvariants", desc := "()V" } : Jvm.MethodName)) ∈ lw_tbl := lw_at lw_m6 131 rfl
theorem q1468 : (Jvm.Cond.instanceMethod ({ cls := "java/util/BitSet", name := "checkInvariants", desc := "()V" } : Jvm.MethodName)) ∈ lw_all := lw_g (lw_at lw_m6 132 rfl) rfl
theorem q1469 : (Jvm.Cond.code ({ cls := "java/util/BitSet", name := "checkInvariants", desc := "()V" } : Jvm.MethodName) prog_54_method_2_code (1 : Nat) (Option.none : Option Jvm.ClassFile.FieldType)) ∈ lw_all := lw_g (lw_at lw_m6 133 rfl) rfl
theorem q1470 : (Jvm.Cond.fieldLink "java/util/BitSet" (3 : Nat) "java/util/BitSet" "$assertionsDisabled" "Z") ∈ lw_all := lw_g (lw_at lw_m6 134 rfl) rfl
theorem q1471 : (Jvm.Cond.laysStatic "java/util/BitSet" "$assertionsDisabled" "Z") ∈ lw_tbl := lw_at lw_m6 135 rfl
theorem q1473 : (Jvm.Cond.instanceMethod ({ cls := "java/util/BitSet", name := "set", desc := "(I)V" } : Jvm.MethodName)) ∈ lw_all := lw_g (lw_at lw_m6 137 rfl) rfl
theorem q1474 : (Jvm.Cond.selects "java/util/BitSet" ({ cls := "java/util/BitSet", name := "set", desc := "(I)V" } : Jvm.MethodName) ({ cls := "java/util/BitSet", name := "set", desc := "(I)V" } : Jvm.MethodName)) ∈ lw_all := lw_g (lw_at lw_m6 138 rfl) rfl
theorem q1475 : (Jvm.Cond.code ({ cls := "java/util/BitSet", name := "set", desc := "(I)V" } : Jvm.MethodName) prog_54_method_19_code (3 : Nat) (Option.none : Option Jvm.ClassFile.FieldType)) ∈ lw_all := lw_g (lw_at lw_m6 139 rfl) rfl
theorem q1476 : (Jvm.Cond.methodLink "java/util/BitSet" (155 : Nat) ({ cls := "java/util/BitSet", name := "expandTo", desc := "(I)V" } : Jvm.MethodName)) ∈ lw_all := lw_g (lw_at lw_m6 140 rfl) rfl
theorem q1477 : (Jvm.Cond.privateMethod ({ cls := "java/util/BitSet", name := "expandTo", desc := "(I)V" } : Jvm.MethodName)) ∈ lw_tbl := lw_at lw_m6 141 rfl
theorem q1478 : (Jvm.Cond.instanceMethod ({ cls := "java/util/BitSet", name := "expandTo", desc := "(I)V" } : Jvm.MethodName)) ∈ lw_all := lw_g (lw_at lw_m6 142 rfl) rfl
theorem q1479 : (Jvm.Cond.code ({ cls := "java/util/BitSet", name := "expandTo", desc := "(I)V" } : Jvm.MethodName) prog_54_method_15_code (3 : Nat) (Option.none : Option Jvm.ClassFile.FieldType)) ∈ lw_all := lw_g (lw_at lw_m6 143 rfl) rfl
theorem q1480 : (Jvm.Cond.methodLink "java/util/BitSet" (139 : Nat) ({ cls := "java/util/BitSet", name := "ensureCapacity", desc := "(I)V" } : Jvm.MethodName)) ∈ lw_all := lw_g (lw_at lw_m6 144 rfl) rfl
theorem q1481 : (Jvm.Cond.privateMethod ({ cls := "java/util/BitSet", name := "ensureCapacity", desc := "(I)V" } : Jvm.MethodName)) ∈ lw_tbl := lw_at lw_m6 145 rfl
theorem q1482 : (Jvm.Cond.instanceMethod ({ cls := "java/util/BitSet", name := "ensureCapacity", desc := "(I)V" } : Jvm.MethodName)) ∈ lw_all := lw_g (lw_at lw_m6 146 rfl) rfl
theorem q1483 : (Jvm.Cond.code ({ cls := "java/util/BitSet", name := "ensureCapacity", desc := "(I)V" } : Jvm.MethodName) prog_54_method_14_code (3 : Nat) (Option.none : Option Jvm.ClassFile.FieldType)) ∈ lw_all := lw_g (lw_at lw_m6 147 rfl) rfl
theorem q1484 : (Jvm.Cond.methodLink "java/util/BitSet" (133 : Nat) ({ cls := "java/lang/Math", name := "max", desc := "(II)I" } : Jvm.MethodName)) ∈ lw_all := lw_g (lw_at lw_m6 148 rfl) rfl
theorem q1485 : (Jvm.Cond.methodLink "java/util/BitSet" (59 : Nat) ({ cls := "java/util/Arrays", name := "copyOf", desc := "([JI)[J" } : Jvm.MethodName)) ∈ lw_all := lw_g (lw_at lw_m6 149 rfl) rfl
theorem q1666 : (Jvm.Cond.instanceMethod ({ cls := "java/util/BitSet", name := "set", desc := "(II)V" } : Jvm.MethodName)) ∈ lw_all := lw_g (lw_at lw_m7 90 rfl) rfl
theorem q1667 : (Jvm.Cond.selects "java/util/BitSet" ({ cls := "java/util/BitSet", name := "set", desc := "(II)V" } : Jvm.MethodName) ({ cls := "java/util/BitSet", name := "set", desc := "(II)V" } : Jvm.MethodName)) ∈ lw_all := lw_g (lw_at lw_m7 91 rfl) rfl
theorem q1668 : (Jvm.Cond.code ({ cls := "java/util/BitSet", name := "set", desc := "(II)V" } : Jvm.MethodName) prog_54_method_21_code (10 : Nat) (Option.none : Option Jvm.ClassFile.FieldType)) ∈ lw_all := lw_g (lw_at lw_m7 92 rfl) rfl
theorem q1669 : (Jvm.Cond.methodLink "java/util/BitSet" (161 : Nat) ({ cls := "java/util/BitSet", name := "checkRange", desc := "(II)V" } : Jvm.MethodName)) ∈ lw_all := lw_g (lw_at lw_m7 93 rfl) rfl
theorem q1670 : (Jvm.Cond.static ({ cls := "java/util/BitSet", name := "checkRange", desc := "(II)V" } : Jvm.MethodName)) ∈ lw_all := lw_g (lw_at lw_m7 94 rfl) rfl
theorem q1671 : (Jvm.Cond.code ({ cls := "java/util/BitSet", name := "checkRange", desc := "(II)V" } : Jvm.MethodName) prog_54_method_16_code (2 : Nat) (Option.none : Option Jvm.ClassFile.FieldType)) ∈ lw_all := lw_g (lw_at lw_m7 95 rfl) rfl
theorem q1672 : (Jvm.Cond.stringRef "java/util/BitSet" (144 : Nat) "fromIndex < 0: ") ∈ lw_tbl := lw_at lw_m7 96 rfl
theorem q1673 : (Jvm.Cond.stringRef "java/util/BitSet" (147 : Nat) "toIndex < 0: ") ∈ lw_tbl := lw_at lw_m7 97 rfl
theorem q1674 : (Jvm.Cond.stringRef "java/util/BitSet" (149 : Nat) "fromIndex: ") ∈ lw_tbl := lw_at lw_m7 98 rfl
theorem q1675 : (Jvm.Cond.stringRef "java/util/BitSet" (151 : Nat) " > toIndex: ") ∈ lw_tbl := lw_at lw_m7 99 rfl
theorem q1676 : (Jvm.Cond.constantLong "java/util/BitSet" (165 : Nat) (-1 : Int64)) ∈ lw_all := lw_g (lw_at lw_m7 100 rfl) rfl
theorem q1678 : (Jvm.Cond.instanceMethod ({ cls := "java/util/BitSet", name := "andNot", desc := "(Ljava/util/BitSet;)V" } : Jvm.MethodName)) ∈ lw_all := lw_g (lw_at lw_m7 102 rfl) rfl
theorem q1679 : (Jvm.Cond.selects "java/util/BitSet" ({ cls := "java/util/BitSet", name := "andNot", desc := "(Ljava/util/BitSet;)V" } : Jvm.MethodName) ({ cls := "java/util/BitSet", name := "andNot", desc := "(Ljava/util/BitSet;)V" } : Jvm.MethodName)) ∈ lw_all := lw_g (lw_at lw_m7 103 rfl) rfl
theorem q1680 : (Jvm.Cond.code ({ cls := "java/util/BitSet", name := "andNot", desc := "(Ljava/util/BitSet;)V" } : Jvm.MethodName) prog_54_method_39_code (3 : Nat) (Option.none : Option Jvm.ClassFile.FieldType)) ∈ lw_all := lw_g (lw_at lw_m7 104 rfl) rfl
theorem q1681 : (Jvm.Cond.methodLink "java/util/BitSet" (193 : Nat) ({ cls := "java/lang/Math", name := "min", desc := "(II)I" } : Jvm.MethodName)) ∈ lw_all := lw_g (lw_at lw_m7 105 rfl) rfl
theorem q1682 : (Jvm.Cond.methodLink "java/util/BitSet" (158 : Nat) ({ cls := "java/util/BitSet", name := "recalculateWordsInUse", desc := "()V" } : Jvm.MethodName)) ∈ lw_all := lw_g (lw_at lw_m7 106 rfl) rfl
theorem q1683 : (Jvm.Cond.privateMethod ({ cls := "java/util/BitSet", name := "recalculateWordsInUse", desc := "()V" } : Jvm.MethodName)) ∈ lw_tbl := lw_at lw_m7 107 rfl
theorem q1684 : (Jvm.Cond.instanceMethod ({ cls := "java/util/BitSet", name := "recalculateWordsInUse", desc := "()V" } : Jvm.MethodName)) ∈ lw_all := lw_g (lw_at lw_m7 108 rfl) rfl
theorem q1685 : (Jvm.Cond.code ({ cls := "java/util/BitSet", name := "recalculateWordsInUse", desc := "()V" } : Jvm.MethodName) prog_54_method_3_code (2 : Nat) (Option.none : Option Jvm.ClassFile.FieldType)) ∈ lw_all := lw_g (lw_at lw_m7 109 rfl) rfl
theorem q1725 : (Jvm.Cond.instanceMethod ({ cls := "java/util/BitSet", name := "nextSetBit", desc := "(I)I" } : Jvm.MethodName)) ∈ lw_all := lw_g (lw_at lw_m7 149 rfl) rfl
theorem q1726 : (Jvm.Cond.selects "java/util/BitSet" ({ cls := "java/util/BitSet", name := "nextSetBit", desc := "(I)I" } : Jvm.MethodName) ({ cls := "java/util/BitSet", name := "nextSetBit", desc := "(I)I" } : Jvm.MethodName)) ∈ lw_all := lw_g (lw_at lw_m7 150 rfl) rfl
theorem q1727 : (Jvm.Cond.code ({ cls := "java/util/BitSet", name := "nextSetBit", desc := "(I)I" } : Jvm.MethodName) prog_54_method_28_code (5 : Nat) (Option.some Jvm.ClassFile.FieldType.int)) ∈ lw_all := lw_g (lw_at lw_m7 151 rfl) rfl
theorem q1728 : (Jvm.Cond.methodLink "java/util/BitSet" (182 : Nat) ({ cls := "java/lang/Long", name := "numberOfTrailingZeros", desc := "(J)I" } : Jvm.MethodName)) ∈ lw_all := lw_g (lw_at lw_m7 152 rfl) rfl
theorem q2423 : (Jvm.Cond.instanceMethod ({ cls := "java/util/BitSet", name := "cardinality", desc := "()I" } : Jvm.MethodName)) ∈ lw_all := lw_g (lw_at lw_m10 127 rfl) rfl
theorem q2424 : (Jvm.Cond.selects "java/util/BitSet" ({ cls := "java/util/BitSet", name := "cardinality", desc := "()I" } : Jvm.MethodName) ({ cls := "java/util/BitSet", name := "cardinality", desc := "()I" } : Jvm.MethodName)) ∈ lw_all := lw_g (lw_at lw_m10 128 rfl) rfl
theorem q2425 : (Jvm.Cond.code ({ cls := "java/util/BitSet", name := "cardinality", desc := "()I" } : Jvm.MethodName) prog_54_method_35_code (3 : Nat) (Option.some Jvm.ClassFile.FieldType.int)) ∈ lw_all := lw_g (lw_at lw_m10 129 rfl) rfl
theorem q2426 : (Jvm.Cond.methodLink "java/util/BitSet" (196 : Nat) ({ cls := "java/lang/Long", name := "bitCount", desc := "(J)I" } : Jvm.MethodName)) ∈ lw_all := lw_g (lw_at lw_m10 130 rfl) rfl
theorem q2713 : (Jvm.Cond.instanceMethod ({ cls := "java/util/BitSet", name := "or", desc := "(Ljava/util/BitSet;)V" } : Jvm.MethodName)) ∈ lw_all := lw_g (lw_at lw_m11 177 rfl) rfl
theorem q2714 : (Jvm.Cond.selects "java/util/BitSet" ({ cls := "java/util/BitSet", name := "or", desc := "(Ljava/util/BitSet;)V" } : Jvm.MethodName) ({ cls := "java/util/BitSet", name := "or", desc := "(Ljava/util/BitSet;)V" } : Jvm.MethodName)) ∈ lw_all := lw_g (lw_at lw_m11 178 rfl) rfl
theorem q2715 : (Jvm.Cond.code ({ cls := "java/util/BitSet", name := "or", desc := "(Ljava/util/BitSet;)V" } : Jvm.MethodName) prog_54_method_37_code (4 : Nat) (Option.none : Option Jvm.ClassFile.FieldType)) ∈ lw_all := lw_g (lw_at lw_m11 179 rfl) rfl
theorem q2716 : (Jvm.Cond.methodLink "java/util/BitSet" (199 : Nat) ({ cls := "java/lang/System", name := "arraycopy", desc := "(Ljava/lang/Object;ILjava/lang/Object;II)V" } : Jvm.MethodName)) ∈ lw_all := lw_g (lw_at lw_m11 180 rfl) rfl
theorem q2718 : (Jvm.Cond.instanceMethod ({ cls := "java/util/BitSet", name := "clear", desc := "()V" } : Jvm.MethodName)) ∈ lw_all := lw_g (lw_at lw_m11 182 rfl) rfl
theorem q2719 : (Jvm.Cond.selects "java/util/BitSet" ({ cls := "java/util/BitSet", name := "clear", desc := "()V" } : Jvm.MethodName) ({ cls := "java/util/BitSet", name := "clear", desc := "()V" } : Jvm.MethodName)) ∈ lw_all := lw_g (lw_at lw_m11 183 rfl) rfl
theorem q2720 : (Jvm.Cond.code ({ cls := "java/util/BitSet", name := "clear", desc := "()V" } : Jvm.MethodName) prog_54_method_25_code (1 : Nat) (Option.none : Option Jvm.ClassFile.FieldType)) ∈ lw_all := lw_g (lw_at lw_m11 184 rfl) rfl
theorem q2756 : (Jvm.Cond.instanceMethod ({ cls := "java/util/BitSet", name := "clear", desc := "(I)V" } : Jvm.MethodName)) ∈ lw_all := lw_g (lw_at lw_m11 220 rfl) rfl
theorem q2757 : (Jvm.Cond.selects "java/util/BitSet" ({ cls := "java/util/BitSet", name := "clear", desc := "(I)V" } : Jvm.MethodName) ({ cls := "java/util/BitSet", name := "clear", desc := "(I)V" } : Jvm.MethodName)) ∈ lw_all := lw_g (lw_at lw_m11 221 rfl) rfl
theorem q2758 : (Jvm.Cond.code ({ cls := "java/util/BitSet", name := "clear", desc := "(I)V" } : Jvm.MethodName) prog_54_method_23_code (3 : Nat) (Option.none : Option Jvm.ClassFile.FieldType)) ∈ lw_all := lw_g (lw_at lw_m11 222 rfl) rfl
theorem q2807 : (Jvm.Cond.instanceMethod ({ cls := "java/util/BitSet", name := "set", desc := "(IZ)V" } : Jvm.MethodName)) ∈ lw_all := lw_g (lw_at lw_m12 31 rfl) rfl
theorem q2808 : (Jvm.Cond.selects "java/util/BitSet" ({ cls := "java/util/BitSet", name := "set", desc := "(IZ)V" } : Jvm.MethodName) ({ cls := "java/util/BitSet", name := "set", desc := "(IZ)V" } : Jvm.MethodName)) ∈ lw_all := lw_g (lw_at lw_m12 32 rfl) rfl
theorem q2809 : (Jvm.Cond.code ({ cls := "java/util/BitSet", name := "set", desc := "(IZ)V" } : Jvm.MethodName) prog_54_method_20_code (3 : Nat) (Option.none : Option Jvm.ClassFile.FieldType)) ∈ lw_all := lw_g (lw_at lw_m12 33 rfl) rfl
theorem q2810 : (Jvm.Cond.methodLink "java/util/BitSet" (167 : Nat) ({ cls := "java/util/BitSet", name := "set", desc := "(I)V" } : Jvm.MethodName)) ∈ lw_all := lw_g (lw_at lw_m12 34 rfl) rfl
theorem q2811 : (Jvm.Cond.methodLink "java/util/BitSet" (170 : Nat) ({ cls := "java/util/BitSet", name := "clear", desc := "(I)V" } : Jvm.MethodName)) ∈ lw_all := lw_g (lw_at lw_m12 35 rfl) rfl
theorem q3675 : (Jvm.Cond.castable "java/util/BitSet" "java/lang/Object") ∈ lw_tbl := lw_at lw_m15 179 rfl
theorem q166 : (Jvm.Cond.initialized "java/util/ImmutableCollections") ∈ lw_all := lw_g (lw_at lw_m1 30 rfl) rfl
theorem q318 : (Jvm.Cond.laysStatic "java/util/ImmutableCollections" "EMPTY" "Ljava/lang/Object;") ∈ lw_tbl := lw_at lw_m1 182 rfl
theorem q1236 : (Jvm.Cond.static ({ cls := "java/util/ImmutableCollections", name := "listFromTrustedArray", desc := "([Ljava/lang/Object;)Ljava/util/List;" } : Jvm.MethodName)) ∈ lw_all := lw_g (lw_at lw_m5 140 rfl) rfl
theorem q1237 : (Jvm.Cond.code ({ cls := "java/util/ImmutableCollections", name := "listFromTrustedArray", desc := "([Ljava/lang/Object;)Ljava/util/List;" } : Jvm.MethodName) prog_57_method_5_code (5 : Nat) (Option.some (Jvm.ClassFile.FieldType.object "java/util/List"))) ∈ lw_all := lw_g (lw_at lw_m5 141 rfl) rfl
theorem q1238 : (Jvm.Cond.fieldLink "java/util/ImmutableCollections" (46 : Nat) "java/util/ImmutableCollections" "$assertionsDisabled" "Z") ∈ lw_all := lw_g (lw_at lw_m5 142 rfl) rfl
theorem q1239 : (Jvm.Cond.laysStatic "java/util/ImmutableCollections" "$assertionsDisabled" "Z") ∈ lw_tbl := lw_at lw_m5 143 rfl
theorem q1240 : (Jvm.Cond.methodLink "java/util/ImmutableCollections" (51 : Nat) ({ cls := "java/lang/Object", name := "getClass", desc := "()Ljava/lang/Class;" } : Jvm.MethodName)) ∈ lw_all := lw_g (lw_at lw_m5 144 rfl) rfl
theorem q1241 : (Jvm.Cond.classLink "java/util/ImmutableCollections" (55 : Nat) "[Ljava/lang/Object;") ∈ lw_all := lw_g (lw_at lw_m5 145 rfl) rfl
theorem q1242 : (Jvm.Cond.methodLink "java/util/ImmutableCollections" (37 : Nat) ({ cls := "java/util/Objects", name := "requireNonNull", desc := "(Ljava/lang/Object;)Ljava/lang/Object;" } : Jvm.MethodName)) ∈ lw_all := lw_g (lw_at lw_m5 146 rfl) rfl
theorem q1245 : (Jvm.Cond.fieldLink "java/util/ImmutableCollections" (60 : Nat) "java/util/ImmutableCollections" "EMPTY_LIST" "Ljava/util/ImmutableCollections$ListN;") ∈ lw_all := lw_g (lw_at lw_m5 149 rfl) rfl
theorem q1246 : (Jvm.Cond.laysStatic "java/util/ImmutableCollections" "EMPTY_LIST" "Ljava/util/ImmutableCollections$ListN;") ∈ lw_tbl := lw_at lw_m5 150 rfl
theorem q1247 : (Jvm.Cond.classLink "java/util/ImmutableCollections" (10 : Nat) "java/util/ImmutableCollections$List12") ∈ lw_all := lw_g (lw_at lw_m5 151 rfl) rfl
theorem q1249 : (Jvm.Cond.methodLink "java/util/ImmutableCollections" (64 : Nat) ({ cls := "java/util/ImmutableCollections$List12", name := "<init>", desc := "(Ljava/lang/Object;)V" } : Jvm.MethodName)) ∈ lw_all := lw_g (lw_at lw_m5 153 rfl) rfl
theorem q1267 : (Jvm.Cond.methodLink "java/util/ImmutableCollections" (67 : Nat) ({ cls := "java/util/ImmutableCollections$List12", name := "<init>", desc := "(Ljava/lang/Object;Ljava/lang/Object;)V" } : Jvm.MethodName)) ∈ lw_all := lw_g (lw_at lw_m5 171 rfl) rfl
theorem q1270 : (Jvm.Cond.classLink "java/util/ImmutableCollections" (12 : Nat) "java/util/ImmutableCollections$ListN") ∈ lw_all := lw_g (lw_at lw_m5 174 rfl) rfl
theorem q1272 : (Jvm.Cond.methodLinkNest "java/util/ImmutableCollections" (43 : Nat) ({ cls := "java/util/ImmutableCollections$ListN", name := "<init>", desc := "([Ljava/lang/Object;Z)V" } : Jvm.MethodName) "java/util/ImmutableCollections") ∈ lw_tbl := lw_at lw_m5 176 rfl
theorem q168 : (Jvm.Cond.initialized "java/util/LinkedList$Node") ∈ lw_all := lw_g (lw_at lw_m1 32 rfl) rfl
theorem q1169 : (Jvm.Cond.selects "java/util/LinkedList$Node" ({ cls := "java/lang/Object", name := "getClass", desc := "()Ljava/lang/Class;" } : Jvm.MethodName) ({ cls := "java/lang/Object", name := "getClass", desc := "()Ljava/lang/Class;" } : Jvm.MethodName)) ∈ lw_all := lw_g (lw_at lw_m5 73 rfl) rfl
theorem q1195 : (Jvm.Cond.instantiable "java/util/LinkedList$Node" (3 : Nat)) ∈ lw_all := lw_g (lw_at lw_m5 99 rfl) rfl
theorem q1197 : (Jvm.Cond.instanceMethod ({ cls := "java/util/LinkedList$Node", name := "<init>", desc := "(Ljava/util/LinkedList$Node;Ljava/lang/Object;Ljava/util/LinkedList$Node;)V" } : Jvm.MethodName)) ∈ lw_all := lw_g (lw_at lw_m5 101 rfl) rfl
theorem q1198 : (Jvm.Cond.code ({ cls := "java/util/LinkedList$Node", name := "<init>", desc := "(Ljava/util/LinkedList$Node;Ljava/lang/Object;Ljava/util/LinkedList$Node;)V" } : Jvm.MethodName) prog_66_method_1_code (4 : Nat) (Option.none : Option Jvm.ClassFile.FieldType)) ∈ lw_all := lw_g (lw_at lw_m5 102 rfl) rfl
theorem q1199 : (Jvm.Cond.methodLink "java/util/LinkedList$Node" (1 : Nat) ({ cls := "java/lang/Object", name := "<init>", desc := "()V" } : Jvm.MethodName)) ∈ lw_all := lw_g (lw_at lw_m5 103 rfl) rfl
theorem q1200 : (Jvm.Cond.fieldLink "java/util/LinkedList$Node" (7 : Nat) "java/util/LinkedList$Node" "item" "Ljava/lang/Object;") ∈ lw_all := lw_g (lw_at lw_m5 104 rfl) rfl
theorem q1203 : (Jvm.Cond.fieldLink "java/util/LinkedList$Node" (13 : Nat) "java/util/LinkedList$Node" "next" "Ljava/util/LinkedList$Node;") ∈ lw_all := lw_g (lw_at lw_m5 107 rfl) rfl
theorem q1206 : (Jvm.Cond.fieldLink "java/util/LinkedList$Node" (17 : Nat) "java/util/LinkedList$Node" "prev" "Ljava/util/LinkedList$Node;") ∈ lw_all := lw_g (lw_at lw_m5 110 rfl) rfl
theorem q1208 : (Jvm.Cond.lays "java/util/LinkedList$Node" "java/util/LinkedList$Node" "item" "Ljava/lang/Object;") ∈ lw_all := lw_g (lw_at lw_m5 112 rfl) rfl
theorem q1209 : (Jvm.Cond.soleField "java/util/LinkedList$Node" "item") ∈ lw_all := lw_g (lw_at lw_m5 113 rfl) rfl
theorem q1210 : (Jvm.Cond.lays "java/util/LinkedList$Node" "java/util/LinkedList$Node" "next" "Ljava/util/LinkedList$Node;") ∈ lw_all := lw_g (lw_at lw_m5 114 rfl) rfl
theorem q1211 : (Jvm.Cond.soleField "java/util/LinkedList$Node" "next") ∈ lw_all := lw_g (lw_at lw_m5 115 rfl) rfl
theorem q1212 : (Jvm.Cond.lays "java/util/LinkedList$Node" "java/util/LinkedList$Node" "prev" "Ljava/util/LinkedList$Node;") ∈ lw_all := lw_g (lw_at lw_m5 116 rfl) rfl
theorem q1213 : (Jvm.Cond.soleField "java/util/LinkedList$Node" "prev") ∈ lw_all := lw_g (lw_at lw_m5 117 rfl) rfl
theorem q1214 : (Jvm.Cond.superclass "java/util/LinkedList$Node" "java/lang/Object") ∈ lw_all := lw_g (lw_at lw_m5 118 rfl) rfl
theorem q3690 : (Jvm.Cond.castable "java/util/LinkedList$Node" "java/lang/Object") ∈ lw_tbl := lw_at lw_m15 194 rfl
theorem q169 : (Jvm.Cond.initialized "java/util/List") ∈ lw_all := lw_g (lw_at lw_m1 33 rfl) rfl
theorem q303 : (Jvm.Cond.interfaceMethod "java/util/List" "java/util/List" "size" "()I") ∈ lw_tbl := lw_at lw_m1 167 rfl
theorem q304 : (Jvm.Cond.declares ({ cls := "java/util/List", name := "size", desc := "()I" } : Jvm.MethodName)) ∈ lw_tbl := lw_at lw_m1 168 rfl
theorem q1113 : (Jvm.Cond.interfaceMethod "java/util/List" "java/util/List" "add" "(Ljava/lang/Object;)Z") ∈ lw_tbl := lw_at lw_m5 17 rfl
theorem q1114 : (Jvm.Cond.declares ({ cls := "java/util/List", name := "add", desc := "(Ljava/lang/Object;)Z" } : Jvm.MethodName)) ∈ lw_tbl := lw_at lw_m5 18 rfl
theorem q1232 : (Jvm.Cond.static ({ cls := "java/util/List", name := "of", desc := "(Ljava/lang/Object;Ljava/lang/Object;Ljava/lang/Object;Ljava/lang/Object;)Ljava/util/List;" } : Jvm.MethodName)) ∈ lw_all := lw_g (lw_at lw_m5 136 rfl) rfl
theorem q1233 : (Jvm.Cond.code ({ cls := "java/util/List", name := "of", desc := "(Ljava/lang/Object;Ljava/lang/Object;Ljava/lang/Object;Ljava/lang/Object;)Ljava/util/List;" } : Jvm.MethodName) prog_67_method_40_code (4 : Nat) (Option.some (Jvm.ClassFile.FieldType.object "java/util/List"))) ∈ lw_all := lw_g (lw_at lw_m5 137 rfl) rfl
theorem q1234 : (Jvm.Cond.classLink "java/util/List" (103 : Nat) "java/lang/Object") ∈ lw_all := lw_g (lw_at lw_m5 138 rfl) rfl
theorem q1235 : (Jvm.Cond.methodLink "java/util/List" (105 : Nat) ({ cls := "java/util/ImmutableCollections", name := "listFromTrustedArray", desc := "([Ljava/lang/Object;)Ljava/util/List;" } : Jvm.MethodName)) ∈ lw_all := lw_g (lw_at lw_m5 139 rfl) rfl
theorem q1285 : (Jvm.Cond.interfaceMethod "java/util/List" "java/util/List" "contains" "(Ljava/lang/Object;)Z") ∈ lw_tbl := lw_at lw_m5 189 rfl
theorem q1286 : (Jvm.Cond.declares ({ cls := "java/util/List", name := "contains", desc := "(Ljava/lang/Object;)Z" } : Jvm.MethodName)) ∈ lw_tbl := lw_at lw_m5 190 rfl
theorem q1337 : (Jvm.Cond.declares ({ cls := "java/util/List", name := "indexOf", desc := "(Ljava/lang/Object;)I" } : Jvm.MethodName)) ∈ lw_tbl := lw_at lw_m6 1 rfl
theorem q1522 : (Jvm.Cond.interfaceMethod "java/util/List" "java/util/List" "isEmpty" "()Z") ∈ lw_tbl := lw_at lw_m6 186 rfl
theorem q1523 : (Jvm.Cond.declares ({ cls := "java/util/List", name := "isEmpty", desc := "()Z" } : Jvm.MethodName)) ∈ lw_tbl := lw_at lw_m6 187 rfl
theorem q1573 : (Jvm.Cond.interfaceMethod "java/util/List" "java/util/List" "get" "(I)Ljava/lang/Object;") ∈ lw_tbl := lw_at lw_m6 237 rfl
theorem q1574 : (Jvm.Cond.declares ({ cls := "java/util/List", name := "get", desc := "(I)Ljava/lang/Object;" } : Jvm.MethodName)) ∈ lw_tbl := lw_at lw_m6 238 rfl
theorem q170 : (Jvm.Cond.initialized "java/util/Objects") ∈ lw_all := lw_g (lw_at lw_m1 34 rfl) rfl
theorem q1243 : (Jvm.Cond.static ({ cls := "java/util/Objects", name := "requireNonNull", desc := "(Ljava/lang/Object;)Ljava/lang/Object;" } : Jvm.MethodName)) ∈ lw_all := lw_g (lw_at lw_m5 147 rfl) rfl
theorem q1244 : (Jvm.Cond.code ({ cls := "java/util/Objects", name := "requireNonNull", desc := "(Ljava/lang/Object;)Ljava/lang/Object;" } : Jvm.MethodName) prog_70_method_10_code (1 : Nat) (Option.some (Jvm.ClassFile.FieldType.object "java/lang/Object"))) ∈ lw_all := lw_g (lw_at lw_m5 148 rfl) rfl
theorem q1346 : (Jvm.Cond.static ({ cls := "java/util/Objects", name := "equals", desc := "(Ljava/lang/Object;Ljava/lang/Object;)Z" } : Jvm.MethodName)) ∈ lw_all := lw_g (lw_at lw_m6 10 rfl) rfl
theorem q1347 : (Jvm.Cond.code ({ cls := "java/util/Objects", name := "equals", desc := "(Ljava/lang/Object;Ljava/lang/Object;)Z" } : Jvm.MethodName) prog_70_method_2_code (2 : Nat) (Option.some Jvm.ClassFile.FieldType.boolean)) ∈ lw_all := lw_g (lw_at lw_m6 11 rfl) rfl
theorem q1348 : (Jvm.Cond.methodLink "java/util/Objects" (14 : Nat) ({ cls := "java/lang/Object", name := "equals", desc := "(Ljava/lang/Object;)Z" } : Jvm.MethodName)) ∈ lw_all := lw_g (lw_at lw_m6 12 rfl) rfl
theorem q1581 : (Jvm.Cond.static ({ cls := "java/util/Objects", name := "checkIndex", desc := "(II)I" } : Jvm.MethodName)) ∈ lw_all := lw_g (lw_at lw_m7 5 rfl) rfl
theorem q1582 : (Jvm.Cond.code ({ cls := "java/util/Objects", name := "checkIndex", desc := "(II)I" } : Jvm.MethodName) prog_70_method_17_code (2 : Nat) (Option.some Jvm.ClassFile.FieldType.int)) ∈ lw_all := lw_g (lw_at lw_m7 6 rfl) rfl
theorem q1583 : (Jvm.Cond.methodLink "java/util/Objects" (105 : Nat) ({ cls := "jdk/internal/util/Preconditions", name := "checkIndex", desc := "(IILjava/util/function/BiFunction;)I" } : Jvm.MethodName)) ∈ lw_all := lw_g (lw_at lw_m7 7 rfl) rfl
theorem q171 : (Jvm.Cond.initialized "java/util/ImmutableCollections$AbstractImmutableCollection") ∈ lw_all := lw_g (lw_at lw_m1 35 rfl) rfl
theorem q1180 : (Jvm.Cond.instanceMethod ({ cls := "java/util/ImmutableCollections$AbstractImmutableCollection", name := "add", desc := "(Ljava/lang/Object;)Z" } : Jvm.MethodName)) ∈ lw_all := lw_g (lw_at lw_m5 84 rfl) rfl
theorem q1181 : (Jvm.Cond.publicMethod ({ cls := "java/util/ImmutableCollections$AbstractImmutableCollection", name := "add", desc := "(Ljava/lang/Object;)Z" } : Jvm.MethodName)) ∈ lw_tbl := lw_at lw_m5 85 rfl
theorem q1182 : (Jvm.Cond.code ({ cls := "java/util/ImmutableCollections$AbstractImmutableCollection", name := "add", desc := "(Ljava/lang/Object;)Z" } : Jvm.MethodName) prog_58_method_2_code (2 : Nat) (Option.some Jvm.ClassFile.FieldType.boolean)) ∈ lw_all := lw_g (lw_at lw_m5 86 rfl) rfl
theorem q1256 : (Jvm.Cond.instanceMethod ({ cls := "java/util/ImmutableCollections$AbstractImmutableCollection", name := "<init>", desc := "()V" } : Jvm.MethodName)) ∈ lw_all := lw_g (lw_at lw_m5 160 rfl) rfl
theorem q1257 : (Jvm.Cond.code ({ cls := "java/util/ImmutableCollections$AbstractImmutableCollection", name := "<init>", desc := "()V" } : Jvm.MethodName) prog_58_method_1_code (1 : Nat) (Option.none : Option Jvm.ClassFile.FieldType)) ∈ lw_all := lw_g (lw_at lw_m5 161 rfl) rfl
theorem q1258 : (Jvm.Cond.methodLink "java/util/ImmutableCollections$AbstractImmutableCollection" (1 : Nat) ({ cls := "java/util/AbstractCollection", name := "<init>", desc := "()V" } : Jvm.MethodName)) ∈ lw_all := lw_g (lw_at lw_m5 162 rfl) rfl
theorem q172 : (Jvm.Cond.initialized "java/util/ImmutableCollections$AbstractImmutableList") ∈ lw_all := lw_g (lw_at lw_m1 36 rfl) rfl
theorem q1253 : (Jvm.Cond.instanceMethod ({ cls := "java/util/ImmutableCollections$AbstractImmutableList", name := "<init>", desc := "()V" } : Jvm.MethodName)) ∈ lw_all := lw_g (lw_at lw_m5 157 rfl) rfl
theorem q1254 : (Jvm.Cond.code ({ cls := "java/util/ImmutableCollections$AbstractImmutableList", name := "<init>", desc := "()V" } : Jvm.MethodName) prog_59_method_1_code (1 : Nat) (Option.none : Option Jvm.ClassFile.FieldType)) ∈ lw_all := lw_g (lw_at lw_m5 158 rfl) rfl
theorem q1255 : (Jvm.Cond.methodLink "java/util/ImmutableCollections$AbstractImmutableList" (1 : Nat) ({ cls := "java/util/ImmutableCollections$AbstractImmutableCollection", name := "<init>", desc := "()V" } : Jvm.MethodName)) ∈ lw_all := lw_g (lw_at lw_m5 159 rfl) rfl
theorem q1333 : (Jvm.Cond.instanceMethod ({ cls := "java/util/ImmutableCollections$AbstractImmutableList", name := "contains", desc := "(Ljava/lang/Object;)Z" } : Jvm.MethodName)) ∈ lw_all := lw_g (lw_at lw_m5 237 rfl) rfl
theorem q1334 : (Jvm.Cond.publicMethod ({ cls := "java/util/ImmutableCollections$AbstractImmutableList", name := "contains", desc := "(Ljava/lang/Object;)Z" } : Jvm.MethodName)) ∈ lw_tbl := lw_at lw_m5 238 rfl
theorem q1335 : (Jvm.Cond.code ({ cls := "java/util/ImmutableCollections$AbstractImmutableList", name := "contains", desc := "(Ljava/lang/Object;)Z" } : Jvm.MethodName) prog_59_method_15_code (2 : Nat) (Option.some Jvm.ClassFile.FieldType.boolean)) ∈ lw_all := lw_g (lw_at lw_m5 239 rfl) rfl
theorem q1336 : (Jvm.Cond.superclass "java/util/ImmutableCollections$AbstractImmutableList" "java/util/ImmutableCollections$AbstractImmutableCollection") ∈ lw_all := lw_g (lw_at lw_m6 0 rfl) rfl
theorem q1595 : (Jvm.Cond.declares ({ cls := "java/util/ImmutableCollections$AbstractImmutableList", name := "outOfBounds", desc := "(I)Ljava/lang/IndexOutOfBoundsException;" } : Jvm.MethodName)) ∈ lw_tbl := lw_at lw_m7 19 rfl
theorem q1597 : (Jvm.Cond.instanceMethod ({ cls := "java/util/ImmutableCollections$AbstractImmutableList", name := "outOfBounds", desc := "(I)Ljava/lang/IndexOutOfBoundsException;" } : Jvm.MethodName)) ∈ lw_all := lw_g (lw_at lw_m7 21 rfl) rfl
theorem q1598 : (Jvm.Cond.code ({ cls := "java/util/ImmutableCollections$AbstractImmutableList", name := "outOfBounds", desc := "(I)Ljava/lang/IndexOutOfBoundsException;" } : Jvm.MethodName) prog_59_method_17_code (2 : Nat) (Option.some (Jvm.ClassFile.FieldType.object "java/lang/IndexOutOfBoundsException"))) ∈ lw_all := lw_g (lw_at lw_m7 22 rfl) rfl
theorem q1599 : (Jvm.Cond.classLink "java/util/ImmutableCollections$AbstractImmutableList" (29 : Nat) "java/lang/IndexOutOfBoundsException") ∈ lw_all := lw_g (lw_at lw_m7 23 rfl) rfl
theorem q1600 : (Jvm.Cond.classLink "java/util/ImmutableCollections$AbstractImmutableList" (31 : Nat) "java/lang/StringBuilder") ∈ lw_all := lw_g (lw_at lw_m7 24 rfl) rfl
theorem q1601 : (Jvm.Cond.methodLink "java/util/ImmutableCollections$AbstractImmutableList" (33 : Nat) ({ cls := "java/lang/StringBuilder", name := "<init>", desc := "()V" } : Jvm.MethodName)) ∈ lw_all := lw_g (lw_at lw_m7 25 rfl) rfl
theorem q1602 : (Jvm.Cond.stringRef "java/util/ImmutableCollections$AbstractImmutableList" (116 : Nat) "Index: ") ∈ lw_tbl := lw_at lw_m7 26 rfl
theorem q1603 : (Jvm.Cond.methodLink "java/util/ImmutableCollections$AbstractImmutableList" (36 : Nat) ({ cls := "java/lang/StringBuilder", name := "append", desc := "(Ljava/lang/String;)Ljava/lang/StringBuilder;" } : Jvm.MethodName)) ∈ lw_all := lw_g (lw_at lw_m7 27 rfl) rfl
theorem q1604 : (Jvm.Cond.methodLink "java/util/ImmutableCollections$AbstractImmutableList" (40 : Nat) ({ cls := "java/lang/StringBuilder", name := "append", desc := "(I)Ljava/lang/StringBuilder;" } : Jvm.MethodName)) ∈ lw_all := lw_g (lw_at lw_m7 28 rfl) rfl
theorem q1605 : (Jvm.Cond.stringRef "java/util/ImmutableCollections$AbstractImmutableList" (118 : Nat) " Size: ") ∈ lw_tbl := lw_at lw_m7 29 rfl
theorem q1606 : (Jvm.Cond.methodLink "java/util/ImmutableCollections$AbstractImmutableList" (13 : Nat) ({ cls := "java/util/ImmutableCollections$AbstractImmutableList", name := "size", desc := "()I" } : Jvm.MethodName)) ∈ lw_all := lw_g (lw_at lw_m7 30 rfl) rfl
theorem q1607 : (Jvm.Cond.sameMethod "java/util/ImmutableCollections$AbstractImmutableList" "java/util/AbstractCollection" "size" "()I") ∈ lw_all := lw_g (lw_at lw_m7 31 rfl) rfl
theorem q1610 : (Jvm.Cond.methodLink "java/util/ImmutableCollections$AbstractImmutableList" (43 : Nat) ({ cls := "java/lang/StringBuilder", name := "toString", desc := "()Ljava/lang/String;" } : Jvm.MethodName)) ∈ lw_all := lw_g (lw_at lw_m7 34 rfl) rfl
theorem q1611 : (Jvm.Cond.methodLink "java/util/ImmutableCollections$AbstractImmutableList" (47 : Nat) ({ cls := "java/lang/IndexOutOfBoundsException", name := "<init>", desc := "(Ljava/lang/String;)V" } : Jvm.MethodName)) ∈ lw_all := lw_g (lw_at lw_m7 35 rfl) rfl
theorem q173 : (Jvm.Cond.initialized "java/util/ImmutableCollections$List12") ∈ lw_all := lw_g (lw_at lw_m1 37 rfl) rfl
theorem q311 : (Jvm.Cond.castable "java/util/ImmutableCollections$List12" "java/util/List") ∈ lw_tbl := lw_at lw_m1 175 rfl
theorem q312 : (Jvm.Cond.selects "java/util/ImmutableCollections$List12" ({ cls := "java/util/List", name := "size", desc := "()I" } : Jvm.MethodName) ({ cls := "java/util/ImmutableCollections$List12", name := "size", desc := "()I" } : Jvm.MethodName)) ∈ lw_all := lw_g (lw_at lw_m1 176 rfl) rfl
theorem q313 : (Jvm.Cond.unhidden "java/util/ImmutableCollections$List12" "size" "()I") ∈ lw_tbl := lw_at lw_m1 177 rfl
theorem q314 : (Jvm.Cond.instanceMethod ({ cls := "java/util/ImmutableCollections$List12", name := "size", desc := "()I" } : Jvm.MethodName)) ∈ lw_all := lw_g (lw_at lw_m1 178 rfl) rfl
theorem q315 : (Jvm.Cond.publicMethod ({ cls := "java/util/ImmutableCollections$List12", name := "size", desc := "()I" } : Jvm.MethodName)) ∈ lw_tbl := lw_at lw_m1 179 rfl
theorem q316 : (Jvm.Cond.code ({ cls := "java/util/ImmutableCollections$List12", name := "size", desc := "()I" } : Jvm.MethodName) prog_60_method_3_code (1 : Nat) (Option.some Jvm.ClassFile.FieldType.int)) ∈ lw_all := lw_g (lw_at lw_m1 180 rfl) rfl
theorem q317 : (Jvm.Cond.fieldLinkNest "java/util/ImmutableCollections$List12" (19 : Nat) "java/util/ImmutableCollections" "EMPTY" "Ljava/lang/Object;" "java/util/ImmutableCollections") ∈ lw_tbl := lw_at lw_m1 181 rfl
theorem q1165 : (Jvm.Cond.selects "java/util/ImmutableCollections$List12" ({ cls := "java/lang/Object", name := "getClass", desc := "()Ljava/lang/Class;" } : Jvm.MethodName) ({ cls := "java/lang/Object", name := "getClass", desc := "()Ljava/lang/Class;" } : Jvm.MethodName)) ∈ lw_all := lw_g (lw_at lw_m5 69 rfl) rfl
theorem q1178 : (Jvm.Cond.selects "java/util/ImmutableCollections$List12" ({ cls := "java/util/List", name := "add", desc := "(Ljava/lang/Object;)Z" } : Jvm.MethodName) ({ cls := "java/util/ImmutableCollections$AbstractImmutableCollection", name := "add", desc := "(Ljava/lang/Object;)Z" } : Jvm.MethodName)) ∈ lw_all := lw_g (lw_at lw_m5 82 rfl) rfl
theorem q1179 : (Jvm.Cond.unhidden "java/util/ImmutableCollections$List12" "add" "(Ljava/lang/Object;)Z") ∈ lw_tbl := lw_at lw_m5 83 rfl
theorem q1248 : (Jvm.Cond.instantiable "java/util/ImmutableCollections$List12" (2 : Nat)) ∈ lw_all := lw_g (lw_at lw_m5 152 rfl) rfl
theorem q1250 : (Jvm.Cond.instanceMethod ({ cls := "java/util/ImmutableCollections$List12", name := "<init>", desc := "(Ljava/lang/Object;)V" } : Jvm.MethodName)) ∈ lw_all := lw_g (lw_at lw_m5 154 rfl) rfl
theorem q1251 : (Jvm.Cond.code ({ cls := "java/util/ImmutableCollections$List12", name := "<init>", desc := "(Ljava/lang/Object;)V" } : Jvm.MethodName) prog_60_method_1_code (2 : Nat) (Option.none : Option Jvm.ClassFile.FieldType)) ∈ lw_all := lw_g (lw_at lw_m5 155 rfl) rfl
theorem q1252 : (Jvm.Cond.methodLink "java/util/ImmutableCollections$List12" (1 : Nat) ({ cls := "java/util/ImmutableCollections$AbstractImmutableList", name := "<init>", desc := "()V" } : Jvm.MethodName)) ∈ lw_all := lw_g (lw_at lw_m5 156 rfl) rfl
theorem q1259 : (Jvm.Cond.methodLink "java/util/ImmutableCollections$List12" (7 : Nat) ({ cls := "java/util/Objects", name := "requireNonNull", desc := "(Ljava/lang/Object;)Ljava/lang/Object;" } : Jvm.MethodName)) ∈ lw_all := lw_g (lw_at lw_m5 163 rfl) rfl
theorem q1260 : (Jvm.Cond.fieldLink "java/util/ImmutableCollections$List12" (13 : Nat) "java/util/ImmutableCollections$List12" "e0" "Ljava/lang/Object;") ∈ lw_all := lw_g (lw_at lw_m5 164 rfl) rfl
theorem q1261 : (Jvm.Cond.fieldLink "java/util/ImmutableCollections$List12" (24 : Nat) "java/util/ImmutableCollections$List12" "e1" "Ljava/lang/Object;") ∈ lw_all := lw_g (lw_at lw_m5 165 rfl) rfl
theorem q1262 : (Jvm.Cond.laysFinal "java/util/ImmutableCollections$List12" "java/util/ImmutableCollections$List12" "e0" "Ljava/lang/Object;") ∈ lw_all := lw_g (lw_at lw_m5 166 rfl) rfl
theorem q1263 : (Jvm.Cond.soleField "java/util/ImmutableCollections$List12" "e0") ∈ lw_all := lw_g (lw_at lw_m5 167 rfl) rfl
theorem q1264 : (Jvm.Cond.laysFinal "java/util/ImmutableCollections$List12" "java/util/ImmutableCollections$List12" "e1" "Ljava/lang/Object;") ∈ lw_all := lw_g (lw_at lw_m5 168 rfl) rfl
theorem q1265 : (Jvm.Cond.soleField "java/util/ImmutableCollections$List12" "e1") ∈ lw_all := lw_g (lw_at lw_m5 169 rfl) rfl
theorem q1266 : (Jvm.Cond.superclass "java/util/ImmutableCollections$List12" "java/util/ImmutableCollections$AbstractImmutableList") ∈ lw_all := lw_g (lw_at lw_m5 170 rfl) rfl
theorem q1268 : (Jvm.Cond.instanceMethod ({ cls := "java/util/ImmutableCollections$List12", name := "<init>", desc := "(Ljava/lang/Object;Ljava/lang/Object;)V" } : Jvm.MethodName)) ∈ lw_all := lw_g (lw_at lw_m5 172 rfl) rfl
theorem q1269 : (Jvm.Cond.code ({ cls := "java/util/ImmutableCollections$List12", name := "<init>", desc := "(Ljava/lang/Object;Ljava/lang/Object;)V" } : Jvm.MethodName) prog_60_method_2_code (3 : Nat) (Option.none : Option Jvm.ClassFile.FieldType)) ∈ lw_all := lw_g (lw_at lw_m5 173 rfl) rfl
theorem q1331 : (Jvm.Cond.selects "java/util/ImmutableCollections$List12" ({ cls := "java/util/List", name := "contains", desc := "(Ljava/lang/Object;)Z" } : Jvm.MethodName) ({ cls := "java/util/ImmutableCollections$AbstractImmutableList", name := "contains", desc := "(Ljava/lang/Object;)Z" } : Jvm.MethodName)) ∈ lw_all := lw_g (lw_at lw_m5 235 rfl) rfl
theorem q1332 : (Jvm.Cond.unhidden "java/util/ImmutableCollections$List12" "contains" "(Ljava/lang/Object;)Z") ∈ lw_tbl := lw_at lw_m5 236 rfl
theorem q1338 : (Jvm.Cond.selects "java/util/ImmutableCollections$List12" ({ cls := "java/util/List", name := "indexOf", desc := "(Ljava/lang/Object;)I" } : Jvm.MethodName) ({ cls := "java/util/ImmutableCollections$List12", name := "indexOf", desc := "(Ljava/lang/Object;)I" } : Jvm.MethodName)) ∈ lw_all := lw_g (lw_at lw_m6 2 rfl) rfl
theorem q1339 : (Jvm.Cond.instanceMethod ({ cls := "java/util/ImmutableCollections$List12", name := "indexOf", desc := "(Ljava/lang/Object;)I" } : Jvm.MethodName)) ∈ lw_all := lw_g (lw_at lw_m6 3 rfl) rfl
theorem q1340 : (Jvm.Cond.code ({ cls := "java/util/ImmutableCollections$List12", name := "indexOf", desc := "(Ljava/lang/Object;)I" } : Jvm.MethodName) prog_60_method_6_code (2 : Nat) (Option.some Jvm.ClassFile.FieldType.int)) ∈ lw_all := lw_g (lw_at lw_m6 4 rfl) rfl
theorem q1341 : (Jvm.Cond.methodLink "java/util/ImmutableCollections$List12" (31 : Nat) ({ cls := "java/lang/Object", name := "equals", desc := "(Ljava/lang/Object;)Z" } : Jvm.MethodName)) ∈ lw_all := lw_g (lw_at lw_m6 5 rfl) rfl
theorem q1529 : (Jvm.Cond.selects "java/util/ImmutableCollections$List12" ({ cls := "java/util/List", name := "isEmpty", desc := "()Z" } : Jvm.MethodName) ({ cls := "java/util/ImmutableCollections$List12", name := "isEmpty", desc := "()Z" } : Jvm.MethodName)) ∈ lw_all := lw_g (lw_at lw_m6 193 rfl) rfl
theorem q1530 : (Jvm.Cond.unhidden "java/util/ImmutableCollections$List12" "isEmpty" "()Z") ∈ lw_tbl := lw_at lw_m6 194 rfl
theorem q1531 : (Jvm.Cond.instanceMethod ({ cls := "java/util/ImmutableCollections$List12", name := "isEmpty", desc := "()Z" } : Jvm.MethodName)) ∈ lw_all := lw_g (lw_at lw_m6 195 rfl) rfl
theorem q1532 : (Jvm.Cond.publicMethod ({ cls := "java/util/ImmutableCollections$List12", name := "isEmpty", desc := "()Z" } : Jvm.MethodName)) ∈ lw_tbl := lw_at lw_m6 196 rfl
theorem q1533 : (Jvm.Cond.code ({ cls := "java/util/ImmutableCollections$List12", name := "isEmpty", desc := "()Z" } : Jvm.MethodName) prog_60_method_4_code (1 : Nat) (Option.some Jvm.ClassFile.FieldType.boolean)) ∈ lw_all := lw_g (lw_at lw_m6 197 rfl) rfl
theorem q1549 : (Jvm.Cond.selects "java/util/ImmutableCollections$List12" ({ cls := "java/util/AbstractCollection", name := "size", desc := "()I" } : Jvm.MethodName) ({ cls := "java/util/ImmutableCollections$List12", name := "size", desc := "()I" } : Jvm.MethodName)) ∈ lw_all := lw_g (lw_at lw_m6 213 rfl) rfl
theorem q1588 : (Jvm.Cond.selects "java/util/ImmutableCollections$List12" ({ cls := "java/util/List", name := "get", desc := "(I)Ljava/lang/Object;" } : Jvm.MethodName) ({ cls := "java/util/ImmutableCollections$List12", name := "get", desc := "(I)Ljava/lang/Object;" } : Jvm.MethodName)) ∈ lw_all := lw_g (lw_at lw_m7 12 rfl) rfl
theorem q1589 : (Jvm.Cond.unhidden "java/util/ImmutableCollections$List12" "get" "(I)Ljava/lang/Object;") ∈ lw_tbl := lw_at lw_m7 13 rfl
theorem q1590 : (Jvm.Cond.instanceMethod ({ cls := "java/util/ImmutableCollections$List12", name := "get", desc := "(I)Ljava/lang/Object;" } : Jvm.MethodName)) ∈ lw_all := lw_g (lw_at lw_m7 14 rfl) rfl
theorem q1591 : (Jvm.Cond.publicMethod ({ cls := "java/util/ImmutableCollections$List12", name := "get", desc := "(I)Ljava/lang/Object;" } : Jvm.MethodName)) ∈ lw_tbl := lw_at lw_m7 15 rfl
theorem q1592 : (Jvm.Cond.code ({ cls := "java/util/ImmutableCollections$List12", name := "get", desc := "(I)Ljava/lang/Object;" } : Jvm.MethodName) prog_60_method_5_code (2 : Nat) (Option.some (Jvm.ClassFile.FieldType.object "java/lang/Object"))) ∈ lw_all := lw_g (lw_at lw_m7 16 rfl) rfl
theorem q1593 : (Jvm.Cond.methodLink "java/util/ImmutableCollections$List12" (27 : Nat) ({ cls := "java/util/ImmutableCollections$List12", name := "outOfBounds", desc := "(I)Ljava/lang/IndexOutOfBoundsException;" } : Jvm.MethodName)) ∈ lw_all := lw_g (lw_at lw_m7 17 rfl) rfl
theorem q1594 : (Jvm.Cond.sameMethod "java/util/ImmutableCollections$List12" "java/util/ImmutableCollections$AbstractImmutableList" "outOfBounds" "(I)Ljava/lang/IndexOutOfBoundsException;") ∈ lw_all := lw_g (lw_at lw_m7 18 rfl) rfl
theorem q1596 : (Jvm.Cond.selects "java/util/ImmutableCollections$List12" ({ cls := "java/util/ImmutableCollections$List12", name := "outOfBounds", desc := "(I)Ljava/lang/IndexOutOfBoundsException;" } : Jvm.MethodName) ({ cls := "java/util/ImmutableCollections$AbstractImmutableList", name := "outOfBounds", desc := "(I)Ljava/lang/IndexOutOfBoundsException;" } : Jvm.MethodName)) ∈ lw_all := lw_g (lw_at lw_m7 20 rfl) rfl
theorem q1608 : (Jvm.Cond.selects "java/util/ImmutableCollections$List12" ({ cls := "java/util/ImmutableCollections$AbstractImmutableList", name := "size", desc := "()I" } : Jvm.MethodName) ({ cls := "java/util/ImmutableCollections$List12", name := "size", desc := "()I" } : Jvm.MethodName)) ∈ lw_all := lw_g (lw_at lw_m7 32 rfl) rfl
theorem q3680 : (Jvm.Cond.castable "java/util/ImmutableCollections$List12" "java/lang/Object") ∈ lw_tbl := lw_at lw_m15 184 rfl
theorem q174 : (Jvm.Cond.initialized "java/util/ImmutableCollections$ListN") ∈ lw_all := lw_g (lw_at lw_m1 38 rfl) rfl
theorem q319 : (Jvm.Cond.castable "java/util/ImmutableCollections$ListN" "java/util/List") ∈ lw_tbl := lw_at lw_m1 183 rfl
theorem q320 : (Jvm.Cond.selects "java/util/ImmutableCollections$ListN" ({ cls := "java/util/List", name := "size", desc := "()I" } : Jvm.MethodName) ({ cls := "java/util/ImmutableCollections$ListN", name := "size", desc := "()I" } : Jvm.MethodName)) ∈ lw_all := lw_g (lw_at lw_m1 184 rfl) rfl
theorem q321 : (Jvm.Cond.unhidden "java/util/ImmutableCollections$ListN" "size" "()I") ∈ lw_tbl := lw_at lw_m1 185 rfl
theorem q322 : (Jvm.Cond.instanceMethod ({ cls := "java/util/ImmutableCollections$ListN", name := "size", desc := "()I" } : Jvm.MethodName)) ∈ lw_all := lw_g (lw_at lw_m1 186 rfl) rfl
theorem q323 : (Jvm.Cond.publicMethod ({ cls := "java/util/ImmutableCollections$ListN", name := "size", desc := "()I" } : Jvm.MethodName)) ∈ lw_tbl := lw_at lw_m1 187 rfl
theorem q324 : (Jvm.Cond.code ({ cls := "java/util/ImmutableCollections$ListN", name := "size", desc := "()I" } : Jvm.MethodName) prog_62_method_3_code (1 : Nat) (Option.some Jvm.ClassFile.FieldType.int)) ∈ lw_all := lw_g (lw_at lw_m1 188 rfl) rfl
theorem q1166 : (Jvm.Cond.selects "java/util/ImmutableCollections$ListN" ({ cls := "java/lang/Object", name := "getClass", desc := "()Ljava/lang/Class;" } : Jvm.MethodName) ({ cls := "java/lang/Object", name := "getClass", desc := "()Ljava/lang/Class;" } : Jvm.MethodName)) ∈ lw_all := lw_g (lw_at lw_m5 70 rfl) rfl
theorem q1183 : (Jvm.Cond.selects "java/util/ImmutableCollections$ListN" ({ cls := "java/util/List", name := "add", desc := "(Ljava/lang/Object;)Z" } : Jvm.MethodName) ({ cls := "java/util/ImmutableCollections$AbstractImmutableCollection", name := "add", desc := "(Ljava/lang/Object;)Z" } : Jvm.MethodName)) ∈ lw_all := lw_g (lw_at lw_m5 87 rfl) rfl
theorem q1184 : (Jvm.Cond.unhidden "java/util/ImmutableCollections$ListN" "add" "(Ljava/lang/Object;)Z") ∈ lw_tbl := lw_at lw_m5 88 rfl
theorem q1271 : (Jvm.Cond.instantiable "java/util/ImmutableCollections$ListN" (2 : Nat)) ∈ lw_all := lw_g (lw_at lw_m5 175 rfl) rfl
theorem q1273 : (Jvm.Cond.instanceMethod ({ cls := "java/util/ImmutableCollections$ListN", name := "<init>", desc := "([Ljava/lang/Object;Z)V" } : Jvm.MethodName)) ∈ lw_all := lw_g (lw_at lw_m5 177 rfl) rfl
theorem q1274 : (Jvm.Cond.code ({ cls := "java/util/ImmutableCollections$ListN", name := "<init>", desc := "([Ljava/lang/Object;Z)V" } : Jvm.MethodName) prog_62_method_1_code (3 : Nat) (Option.none : Option Jvm.ClassFile.FieldType)) ∈ lw_all := lw_g (lw_at lw_m5 178 rfl) rfl
theorem q1275 : (Jvm.Cond.methodLink "java/util/ImmutableCollections$ListN" (1 : Nat) ({ cls := "java/util/ImmutableCollections$AbstractImmutableList", name := "<init>", desc := "()V" } : Jvm.MethodName)) ∈ lw_all := lw_g (lw_at lw_m5 179 rfl) rfl
theorem q1276 : (Jvm.Cond.fieldLink "java/util/ImmutableCollections$ListN" (7 : Nat) "java/util/ImmutableCollections$ListN" "elements" "[Ljava/lang/Object;") ∈ lw_all := lw_g (lw_at lw_m5 180 rfl) rfl
theorem q1277 : (Jvm.Cond.fieldLink "java/util/ImmutableCollections$ListN" (13 : Nat) "java/util/ImmutableCollections$ListN" "allowNulls" "Z") ∈ lw_all := lw_g (lw_at lw_m5 181 rfl) rfl
theorem q1278 : (Jvm.Cond.laysFinal "java/util/ImmutableCollections$ListN" "java/util/ImmutableCollections$ListN" "elements" "[Ljava/lang/Object;") ∈ lw_all := lw_g (lw_at lw_m5 182 rfl) rfl
theorem q1279 : (Jvm.Cond.soleField "java/util/ImmutableCollections$ListN" "elements") ∈ lw_all := lw_g (lw_at lw_m5 183 rfl) rfl
theorem q1280 : (Jvm.Cond.laysFinal "java/util/ImmutableCollections$ListN" "java/util/ImmutableCollections$ListN" "allowNulls" "Z") ∈ lw_all := lw_g (lw_at lw_m5 184 rfl) rfl
theorem q1281 : (Jvm.Cond.soleField "java/util/ImmutableCollections$ListN" "allowNulls") ∈ lw_all := lw_g (lw_at lw_m5 185 rfl) rfl
theorem q1282 : (Jvm.Cond.superclass "java/util/ImmutableCollections$ListN" "java/util/ImmutableCollections$AbstractImmutableList") ∈ lw_all := lw_g (lw_at lw_m5 186 rfl) rfl
theorem q1342 : (Jvm.Cond.selects "java/util/ImmutableCollections$ListN" ({ cls := "java/util/List", name := "indexOf", desc := "(Ljava/lang/Object;)I" } : Jvm.MethodName) ({ cls := "java/util/ImmutableCollections$ListN", name := "indexOf", desc := "(Ljava/lang/Object;)I" } : Jvm.MethodName)) ∈ lw_all := lw_g (lw_at lw_m6 6 rfl) rfl
theorem q1343 : (Jvm.Cond.instanceMethod ({ cls := "java/util/ImmutableCollections$ListN", name := "indexOf", desc := "(Ljava/lang/Object;)I" } : Jvm.MethodName)) ∈ lw_all := lw_g (lw_at lw_m6 7 rfl) rfl
theorem q1344 : (Jvm.Cond.code ({ cls := "java/util/ImmutableCollections$ListN", name := "indexOf", desc := "(Ljava/lang/Object;)I" } : Jvm.MethodName) prog_62_method_9_code (4 : Nat) (Option.some Jvm.ClassFile.FieldType.int)) ∈ lw_all := lw_g (lw_at lw_m6 8 rfl) rfl
theorem q1345 : (Jvm.Cond.methodLink "java/util/ImmutableCollections$ListN" (53 : Nat) ({ cls := "java/util/Objects", name := "equals", desc := "(Ljava/lang/Object;Ljava/lang/Object;)Z" } : Jvm.MethodName)) ∈ lw_all := lw_g (lw_at lw_m6 9 rfl) rfl
theorem q1349 : (Jvm.Cond.selects "java/util/ImmutableCollections$ListN" ({ cls := "java/util/List", name := "contains", desc := "(Ljava/lang/Object;)Z" } : Jvm.MethodName) ({ cls := "java/util/ImmutableCollections$AbstractImmutableList", name := "contains", desc := "(Ljava/lang/Object;)Z" } : Jvm.MethodName)) ∈ lw_all := lw_g (lw_at lw_m6 13 rfl) rfl
theorem q1350 : (Jvm.Cond.unhidden "java/util/ImmutableCollections$ListN" "contains" "(Ljava/lang/Object;)Z") ∈ lw_tbl := lw_at lw_m6 14 rfl
theorem q1534 : (Jvm.Cond.selects "java/util/ImmutableCollections$ListN" ({ cls := "java/util/List", name := "isEmpty", desc := "()Z" } : Jvm.MethodName) ({ cls := "java/util/ImmutableCollections$ListN", name := "isEmpty", desc := "()Z" } : Jvm.MethodName)) ∈ lw_all := lw_g (lw_at lw_m6 198 rfl) rfl
theorem q1535 : (Jvm.Cond.unhidden "java/util/ImmutableCollections$ListN" "isEmpty" "()Z") ∈ lw_tbl := lw_at lw_m6 199 rfl
theorem q1536 : (Jvm.Cond.instanceMethod ({ cls := "java/util/ImmutableCollections$ListN", name := "isEmpty", desc := "()Z" } : Jvm.MethodName)) ∈ lw_all := lw_g (lw_at lw_m6 200 rfl) rfl
theorem q1537 : (Jvm.Cond.publicMethod ({ cls := "java/util/ImmutableCollections$ListN", name := "isEmpty", desc := "()Z" } : Jvm.MethodName)) ∈ lw_tbl := lw_at lw_m6 201 rfl
theorem q1538 : (Jvm.Cond.code ({ cls := "java/util/ImmutableCollections$ListN", name := "isEmpty", desc := "()Z" } : Jvm.MethodName) prog_62_method_2_code (1 : Nat) (Option.some Jvm.ClassFile.FieldType.boolean)) ∈ lw_all := lw_g (lw_at lw_m6 202 rfl) rfl
theorem q1550 : (Jvm.Cond.selects "java/util/ImmutableCollections$ListN" ({ cls := "java/util/AbstractCollection", name := "size", desc := "()I" } : Jvm.MethodName) ({ cls := "java/util/ImmutableCollections$ListN", name := "size", desc := "()I" } : Jvm.MethodName)) ∈ lw_all := lw_g (lw_at lw_m6 214 rfl) rfl
theorem q1609 : (Jvm.Cond.selects "java/util/ImmutableCollections$ListN" ({ cls := "java/util/ImmutableCollections$AbstractImmutableList", name := "size", desc := "()I" } : Jvm.MethodName) ({ cls := "java/util/ImmutableCollections$ListN", name := "size", desc := "()I" } : Jvm.MethodName)) ∈ lw_all := lw_g (lw_at lw_m7 33 rfl) rfl
theorem q1612 : (Jvm.Cond.selects "java/util/ImmutableCollections$ListN" ({ cls := "java/util/List", name := "get", desc := "(I)Ljava/lang/Object;" } : Jvm.MethodName) ({ cls := "java/util/ImmutableCollections$ListN", name := "get", desc := "(I)Ljava/lang/Object;" } : Jvm.MethodName)) ∈ lw_all := lw_g (lw_at lw_m7 36 rfl) rfl
theorem q1613 : (Jvm.Cond.unhidden "java/util/ImmutableCollections$ListN" "get" "(I)Ljava/lang/Object;") ∈ lw_tbl := lw_at lw_m7 37 rfl
theorem q1614 : (Jvm.Cond.instanceMethod ({ cls := "java/util/ImmutableCollections$ListN", name := "get", desc := "(I)Ljava/lang/Object;" } : Jvm.MethodName)) ∈ lw_all := lw_g (lw_at lw_m7 38 rfl) rfl
theorem q1615 : (Jvm.Cond.publicMethod ({ cls := "java/util/ImmutableCollections$ListN", name := "get", desc := "(I)Ljava/lang/Object;" } : Jvm.MethodName)) ∈ lw_tbl := lw_at lw_m7 39 rfl
theorem q1616 : (Jvm.Cond.code ({ cls := "java/util/ImmutableCollections$ListN", name := "get", desc := "(I)Ljava/lang/Object;" } : Jvm.MethodName) prog_62_method_4_code (2 : Nat) (Option.some (Jvm.ClassFile.FieldType.object "java/lang/Object"))) ∈ lw_all := lw_g (lw_at lw_m7 40 rfl) rfl
theorem q3679 : (Jvm.Cond.castable "java/util/ImmutableCollections$ListN" "java/lang/Object") ∈ lw_tbl := lw_at lw_m15 183 rfl
theorem q179 : (Jvm.Cond.initialized "java/lang/Long") ∈ lw_all := lw_g (lw_at lw_m1 43 rfl) rfl
theorem q1729 : (Jvm.Cond.static ({ cls := "java/lang/Long", name := "numberOfTrailingZeros", desc := "(J)I" } : Jvm.MethodName)) ∈ lw_all := lw_g (lw_at lw_m7 153 rfl) rfl
theorem q1730 : (Jvm.Cond.code ({ cls := "java/lang/Long", name := "numberOfTrailingZeros", desc := "(J)I" } : Jvm.MethodName) prog_30_method_49_code (3 : Nat) (Option.some Jvm.ClassFile.FieldType.int)) ∈ lw_all := lw_g (lw_at lw_m7 154 rfl) rfl
theorem q1731 : (Jvm.Cond.methodLink "java/lang/Long" (311 : Nat) ({ cls := "java/lang/Integer", name := "numberOfTrailingZeros", desc := "(I)I" } : Jvm.MethodName)) ∈ lw_all := lw_g (lw_at lw_m7 155 rfl) rfl
theorem q2427 : (Jvm.Cond.static ({ cls := "java/lang/Long", name := "bitCount", desc := "(J)I" } : Jvm.MethodName)) ∈ lw_all := lw_g (lw_at lw_m10 131 rfl) rfl
theorem q2428 : (Jvm.Cond.code ({ cls := "java/lang/Long", name := "bitCount", desc := "(J)I" } : Jvm.MethodName) prog_30_method_50_code (2 : Nat) (Option.some Jvm.ClassFile.FieldType.int)) ∈ lw_all := lw_g (lw_at lw_m10 132 rfl) rfl
theorem q2429 : (Jvm.Cond.constantLong "java/lang/Long" (314 : Nat) (6148914691236517205 : Int64)) ∈ lw_all := lw_g (lw_at lw_m10 133 rfl) rfl
theorem q2430 : (Jvm.Cond.constantLong "java/lang/Long" (316 : Nat) (3689348814741910323 : Int64)) ∈ lw_all := lw_g (lw_at lw_m10 134 rfl) rfl
theorem q2431 : (Jvm.Cond.constantLong "java/lang/Long" (318 : Nat) (1085102592571150095 : Int64)) ∈ lw_all := lw_g (lw_at lw_m10 135 rfl) rfl
theorem q2658 : (Jvm.Cond.static ({ cls := "java/lang/Long", name := "stringSize", desc := "(J)I" } : Jvm.MethodName)) ∈ lw_all := lw_g (lw_at lw_m11 122 rfl) rfl
theorem q2659 : (Jvm.Cond.code ({ cls := "java/lang/Long", name := "stringSize", desc := "(J)I" } : Jvm.MethodName) prog_30_method_15_code (6 : Nat) (Option.some Jvm.ClassFile.FieldType.int)) ∈ lw_all := lw_g (lw_at lw_m11 123 rfl) rfl
theorem q2660 : (Jvm.Cond.constantLong "java/lang/Long" (140 : Nat) (-10 : Int64)) ∈ lw_all := lw_g (lw_at lw_m11 124 rfl) rfl
theorem q2661 : (Jvm.Cond.constantLong "java/lang/Long" (53 : Nat) (10 : Int64)) ∈ lw_all := lw_g (lw_at lw_m11 125 rfl) rfl
theorem q2663 : (Jvm.Cond.static ({ cls := "java/lang/Long", name := "getChars", desc := "(JI[B)I" } : Jvm.MethodName)) ∈ lw_all := lw_g (lw_at lw_m11 127 rfl) rfl
theorem q2664 : (Jvm.Cond.code ({ cls := "java/lang/Long", name := "getChars", desc := "(JI[B)I" } : Jvm.MethodName) prog_30_method_14_code (11 : Nat) (Option.some Jvm.ClassFile.FieldType.int)) ∈ lw_all := lw_g (lw_at lw_m11 128 rfl) rfl
theorem q2665 : (Jvm.Cond.constantLong "java/lang/Long" (129 : Nat) (-2147483648 : Int64)) ∈ lw_all := lw_g (lw_at lw_m11 129 rfl) rfl
theorem q2666 : (Jvm.Cond.constantLong "java/lang/Long" (131 : Nat) (100 : Int64)) ∈ lw_all := lw_g (lw_at lw_m11 130 rfl) rfl
theorem q2667 : (Jvm.Cond.fieldLink "java/lang/Long" (133 : Nat) "java/lang/Integer" "DigitOnes" "[B") ∈ lw_all := lw_g (lw_at lw_m11 131 rfl) rfl
theorem q2668 : (Jvm.Cond.fieldLink "java/lang/Long" (137 : Nat) "java/lang/Integer" "DigitTens" "[B") ∈ lw_all := lw_g (lw_at lw_m11 132 rfl) rfl
theorem q180 : (Jvm.Cond.initialized "java/lang/IllegalStateException") ∈ lw_all := lw_g (lw_at lw_m1 44 rfl) rfl
theorem q388 : (Jvm.Cond.selects "java/lang/IllegalStateException" ({ cls := "java/lang/Throwable", name := "fillInStackTrace", desc := "()Ljava/lang/Throwable;" } : Jvm.MethodName) ({ cls := "java/lang/Throwable", name := "fillInStackTrace", desc := "()Ljava/lang/Throwable;" } : Jvm.MethodName)) ∈ lw_all := lw_g (lw_at lw_m2 12 rfl) rfl
theorem q1153 : (Jvm.Cond.selects "java/lang/IllegalStateException" ({ cls := "java/lang/Object", name := "getClass", desc := "()Ljava/lang/Class;" } : Jvm.MethodName) ({ cls := "java/lang/Object", name := "getClass", desc := "()Ljava/lang/Class;" } : Jvm.MethodName)) ∈ lw_all := lw_g (lw_at lw_m5 57 rfl) rfl
theorem q1316 : (Jvm.Cond.selects "java/lang/IllegalStateException" ({ cls := "java/lang/Object", name := "equals", desc := "(Ljava/lang/Object;)Z" } : Jvm.MethodName) ({ cls := "java/lang/Object", name := "equals", desc := "(Ljava/lang/Object;)Z" } : Jvm.MethodName)) ∈ lw_all := lw_g (lw_at lw_m5 220 rfl) rfl
theorem q1805 : (Jvm.Cond.instantiable "java/lang/IllegalStateException" (6 : Nat)) ∈ lw_all := lw_g (lw_at lw_m7 229 rfl) rfl
theorem q1806 : (Jvm.Cond.castable "java/lang/IllegalStateException" "java/lang/IllegalStateException") ∈ lw_tbl := lw_at lw_m7 230 rfl
theorem q1807 : (Jvm.Cond.selects "java/lang/IllegalStateException" ({ cls := "java/lang/Throwable", name := "fillInStackTrace", desc := "(I)Ljava/lang/Throwable;" } : Jvm.MethodName) ({ cls := "java/lang/Throwable", name := "fillInStackTrace", desc := "(I)Ljava/lang/Throwable;" } : Jvm.MethodName)) ∈ lw_all := lw_g (lw_at lw_m7 231 rfl) rfl
theorem q1808 : (Jvm.Cond.lays "java/lang/IllegalStateException" "java/lang/Throwable" "cause" "Ljava/lang/Throwable;") ∈ lw_all := lw_g (lw_at lw_m7 232 rfl) rfl
theorem q1809 : (Jvm.Cond.lays "java/lang/IllegalStateException" "java/lang/Throwable" "stackTrace" "[Ljava/lang/StackTraceElement;") ∈ lw_all := lw_g (lw_at lw_m7 233 rfl) rfl
theorem q1810 : (Jvm.Cond.lays "java/lang/IllegalStateException" "java/lang/Throwable" "suppressedExceptions" "Ljava/util/List;") ∈ lw_all := lw_g (lw_at lw_m7 234 rfl) rfl
theorem q1811 : (Jvm.Cond.lays "java/lang/IllegalStateException" "java/lang/Throwable" "detailMessage" "Ljava/lang/String;") ∈ lw_all := lw_g (lw_at lw_m7 235 rfl) rfl
theorem q1812 : (Jvm.Cond.lays "java/lang/IllegalStateException" "java/lang/Throwable" "backtrace" "Ljava/lang/Object;") ∈ lw_all := lw_g (lw_at lw_m7 236 rfl) rfl
theorem q1814 : (Jvm.Cond.instanceMethod ({ cls := "java/lang/IllegalStateException", name := "<init>", desc := "()V" } : Jvm.MethodName)) ∈ lw_all := lw_g (lw_at lw_m7 238 rfl) rfl
theorem q1815 : (Jvm.Cond.code ({ cls := "java/lang/IllegalStateException", name := "<init>", desc := "()V" } : Jvm.MethodName) prog_25_method_1_code (1 : Nat) (Option.none : Option Jvm.ClassFile.FieldType)) ∈ lw_all := lw_g (lw_at lw_m7 239 rfl) rfl
theorem q1816 : (Jvm.Cond.methodLink "java/lang/IllegalStateException" (1 : Nat) ({ cls := "java/lang/RuntimeException", name := "<init>", desc := "()V" } : Jvm.MethodName)) ∈ lw_all := lw_g (lw_at lw_m8 0 rfl) rfl
theorem q1817 : (Jvm.Cond.lays "java/lang/IllegalStateException" "java/lang/Throwable" "depth" "I") ∈ lw_all := lw_g (lw_at lw_m8 1 rfl) rfl
theorem q1818 : (Jvm.Cond.superclass "java/lang/IllegalStateException" "java/lang/RuntimeException") ∈ lw_all := lw_g (lw_at lw_m8 2 rfl) rfl
theorem q2245 : (Jvm.Cond.selects "java/lang/IllegalStateException" ({ cls := "java/lang/Throwable", name := "toString", desc := "()Ljava/lang/String;" } : Jvm.MethodName) ({ cls := "java/lang/Throwable", name := "toString", desc := "()Ljava/lang/String;" } : Jvm.MethodName)) ∈ lw_all := lw_g (lw_at lw_m9 189 rfl) rfl
theorem q2257 : (Jvm.Cond.selects "java/lang/IllegalStateException" ({ cls := "java/lang/Throwable", name := "getLocalizedMessage", desc := "()Ljava/lang/String;" } : Jvm.MethodName) ({ cls := "java/lang/Throwable", name := "getLocalizedMessage", desc := "()Ljava/lang/String;" } : Jvm.MethodName)) ∈ lw_all := lw_g (lw_at lw_m9 201 rfl) rfl
theorem q2268 : (Jvm.Cond.selects "java/lang/IllegalStateException" ({ cls := "java/lang/Throwable", name := "getMessage", desc := "()Ljava/lang/String;" } : Jvm.MethodName) ({ cls := "java/lang/Throwable", name := "getMessage", desc := "()Ljava/lang/String;" } : Jvm.MethodName)) ∈ lw_all := lw_g (lw_at lw_m9 212 rfl) rfl
theorem q2800 : (Jvm.Cond.instanceMethod ({ cls := "java/lang/IllegalStateException", name := "<init>", desc := "(Ljava/lang/String;)V" } : Jvm.MethodName)) ∈ lw_all := lw_g (lw_at lw_m12 24 rfl) rfl
theorem q2801 : (Jvm.Cond.code ({ cls := "java/lang/IllegalStateException", name := "<init>", desc := "(Ljava/lang/String;)V" } : Jvm.MethodName) prog_25_method_2_code (2 : Nat) (Option.none : Option Jvm.ClassFile.FieldType)) ∈ lw_all := lw_g (lw_at lw_m12 25 rfl) rfl
theorem q2802 : (Jvm.Cond.methodLink "java/lang/IllegalStateException" (7 : Nat) ({ cls := "java/lang/RuntimeException", name := "<init>", desc := "(Ljava/lang/String;)V" } : Jvm.MethodName)) ∈ lw_all := lw_g (lw_at lw_m12 26 rfl) rfl
theorem q3683 : (Jvm.Cond.castable "java/lang/IllegalStateException" "java/lang/Object") ∈ lw_tbl := lw_at lw_m15 187 rfl
theorem q181 : (Jvm.Cond.initialized "java/util/AbstractSequentialList") ∈ lw_all := lw_g (lw_at lw_m1 45 rfl) rfl
theorem q2066 : (Jvm.Cond.instanceMethod ({ cls := "java/util/AbstractSequentialList", name := "<init>", desc := "()V" } : Jvm.MethodName)) ∈ lw_all := lw_g (lw_at lw_m9 10 rfl) rfl
theorem q2067 : (Jvm.Cond.code ({ cls := "java/util/AbstractSequentialList", name := "<init>", desc := "()V" } : Jvm.MethodName) prog_48_method_1_code (1 : Nat) (Option.none : Option Jvm.ClassFile.FieldType)) ∈ lw_all := lw_g (lw_at lw_m9 11 rfl) rfl
theorem q2068 : (Jvm.Cond.methodLink "java/util/AbstractSequentialList" (1 : Nat) ({ cls := "java/util/AbstractList", name := "<init>", desc := "()V" } : Jvm.MethodName)) ∈ lw_all := lw_g (lw_at lw_m9 12 rfl) rfl
theorem q2083 : (Jvm.Cond.declares ({ cls := "java/util/AbstractSequentialList", name := "iterator", desc := "()Ljava/util/Iterator;" } : Jvm.MethodName)) ∈ lw_tbl := lw_at lw_m9 27 rfl
theorem q2085 : (Jvm.Cond.instanceMethod ({ cls := "java/util/AbstractSequentialList", name := "iterator", desc := "()Ljava/util/Iterator;" } : Jvm.MethodName)) ∈ lw_all := lw_g (lw_at lw_m9 29 rfl) rfl
theorem q2086 : (Jvm.Cond.code ({ cls := "java/util/AbstractSequentialList", name := "iterator", desc := "()Ljava/util/Iterator;" } : Jvm.MethodName) prog_48_method_7_code (1 : Nat) (Option.some (Jvm.ClassFile.FieldType.object "java/util/Iterator"))) ∈ lw_all := lw_g (lw_at lw_m9 30 rfl) rfl
theorem q2087 : (Jvm.Cond.methodLink "java/util/AbstractSequentialList" (65 : Nat) ({ cls := "java/util/AbstractSequentialList", name := "listIterator", desc := "()Ljava/util/ListIterator;" } : Jvm.MethodName)) ∈ lw_all := lw_g (lw_at lw_m9 31 rfl) rfl
theorem q2088 : (Jvm.Cond.sameMethod "java/util/AbstractSequentialList" "java/util/AbstractList" "listIterator" "()Ljava/util/ListIterator;") ∈ lw_all := lw_g (lw_at lw_m9 32 rfl) rfl
theorem q182 : (Jvm.Cond.initialized "java/util/LinkedList") ∈ lw_all := lw_g (lw_at lw_m1 46 rfl) rfl
theorem q325 : (Jvm.Cond.castable "java/util/LinkedList" "java/util/List") ∈ lw_tbl := lw_at lw_m1 189 rfl
theorem q326 : (Jvm.Cond.selects "java/util/LinkedList" ({ cls := "java/util/List", name := "size", desc := "()I" } : Jvm.MethodName) ({ cls := "java/util/LinkedList", name := "size", desc := "()I" } : Jvm.MethodName)) ∈ lw_all := lw_g (lw_at lw_m1 190 rfl) rfl
theorem q327 : (Jvm.Cond.unhidden "java/util/LinkedList" "size" "()I") ∈ lw_tbl := lw_at lw_m1 191 rfl
theorem q328 : (Jvm.Cond.instanceMethod ({ cls := "java/util/LinkedList", name := "size", desc := "()I" } : Jvm.MethodName)) ∈ lw_all := lw_g (lw_at lw_m1 192 rfl) rfl
theorem q329 : (Jvm.Cond.publicMethod ({ cls := "java/util/LinkedList", name := "size", desc := "()I" } : Jvm.MethodName)) ∈ lw_tbl := lw_at lw_m1 193 rfl
theorem q330 : (Jvm.Cond.code ({ cls := "java/util/LinkedList", name := "size", desc := "()I" } : Jvm.MethodName) prog_64_method_16_code (1 : Nat) (Option.some Jvm.ClassFile.FieldType.int)) ∈ lw_all := lw_g (lw_at lw_m1 194 rfl) rfl
theorem q733 : (Jvm.Cond.sameField "java/util/LinkedList" "java/util/AbstractList" "modCount" "I") ∈ lw_all := lw_g (lw_at lw_m3 117 rfl) rfl
theorem q737 : (Jvm.Cond.fieldLink "java/util/LinkedList" (33 : Nat) "java/util/LinkedList" "modCount" "I") ∈ lw_all := lw_g (lw_at lw_m3 121 rfl) rfl
theorem q1167 : (Jvm.Cond.selects "java/util/LinkedList" ({ cls := "java/lang/Object", name := "getClass", desc := "()Ljava/lang/Class;" } : Jvm.MethodName) ({ cls := "java/lang/Object", name := "getClass", desc := "()Ljava/lang/Class;" } : Jvm.MethodName)) ∈ lw_all := lw_g (lw_at lw_m5 71 rfl) rfl
theorem q1185 : (Jvm.Cond.selects "java/util/LinkedList" ({ cls := "java/util/List", name := "add", desc := "(Ljava/lang/Object;)Z" } : Jvm.MethodName) ({ cls := "java/util/LinkedList", name := "add", desc := "(Ljava/lang/Object;)Z" } : Jvm.MethodName)) ∈ lw_all := lw_g (lw_at lw_m5 89 rfl) rfl
theorem q1186 : (Jvm.Cond.unhidden "java/util/LinkedList" "add" "(Ljava/lang/Object;)Z") ∈ lw_tbl := lw_at lw_m5 90 rfl
theorem q1187 : (Jvm.Cond.instanceMethod ({ cls := "java/util/LinkedList", name := "add", desc := "(Ljava/lang/Object;)Z" } : Jvm.MethodName)) ∈ lw_all := lw_g (lw_at lw_m5 91 rfl) rfl
theorem q1188 : (Jvm.Cond.publicMethod ({ cls := "java/util/LinkedList", name := "add", desc := "(Ljava/lang/Object;)Z" } : Jvm.MethodName)) ∈ lw_tbl := lw_at lw_m5 92 rfl
theorem q1189 : (Jvm.Cond.code ({ cls := "java/util/LinkedList", name := "add", desc := "(Ljava/lang/Object;)Z" } : Jvm.MethodName) prog_64_method_17_code (2 : Nat) (Option.some Jvm.ClassFile.FieldType.boolean)) ∈ lw_all := lw_g (lw_at lw_m5 93 rfl) rfl
theorem q1190 : (Jvm.Cond.methodLink "java/util/LinkedList" (57 : Nat) ({ cls := "java/util/LinkedList", name := "linkLast", desc := "(Ljava/lang/Object;)V" } : Jvm.MethodName)) ∈ lw_all := lw_g (lw_at lw_m5 94 rfl) rfl
theorem q1191 : (Jvm.Cond.instanceMethod ({ cls := "java/util/LinkedList", name := "linkLast", desc := "(Ljava/lang/Object;)V" } : Jvm.MethodName)) ∈ lw_all := lw_g (lw_at lw_m5 95 rfl) rfl
theorem q1192 : (Jvm.Cond.selects "java/util/LinkedList" ({ cls := "java/util/LinkedList", name := "linkLast", desc := "(Ljava/lang/Object;)V" } : Jvm.MethodName) ({ cls := "java/util/LinkedList", name := "linkLast", desc := "(Ljava/lang/Object;)V" } : Jvm.MethodName)) ∈ lw_all := lw_g (lw_at lw_m5 96 rfl) rfl
theorem q1193 : (Jvm.Cond.code ({ cls := "java/util/LinkedList", name := "linkLast", desc := "(Ljava/lang/Object;)V" } : Jvm.MethodName) prog_64_method_4_code (4 : Nat) (Option.none : Option Jvm.ClassFile.FieldType)) ∈ lw_all := lw_g (lw_at lw_m5 97 rfl) rfl
theorem q1194 : (Jvm.Cond.classLink "java/util/LinkedList" (22 : Nat) "java/util/LinkedList$Node") ∈ lw_all := lw_g (lw_at lw_m5 98 rfl) rfl
theorem q1196 : (Jvm.Cond.methodLink "java/util/LinkedList" (24 : Nat) ({ cls := "java/util/LinkedList$Node", name := "<init>", desc := "(Ljava/util/LinkedList$Node;Ljava/lang/Object;Ljava/util/LinkedList$Node;)V" } : Jvm.MethodName)) ∈ lw_all := lw_g (lw_at lw_m5 100 rfl) rfl
theorem q1202 : (Jvm.Cond.fieldLink "java/util/LinkedList" (39 : Nat) "java/util/LinkedList$Node" "item" "Ljava/lang/Object;") ∈ lw_all := lw_g (lw_at lw_m5 106 rfl) rfl
theorem q1205 : (Jvm.Cond.fieldLink "java/util/LinkedList" (36 : Nat) "java/util/LinkedList$Node" "next" "Ljava/util/LinkedList$Node;") ∈ lw_all := lw_g (lw_at lw_m5 109 rfl) rfl
theorem q1207 : (Jvm.Cond.fieldLink "java/util/LinkedList" (30 : Nat) "java/util/LinkedList$Node" "prev" "Ljava/util/LinkedList$Node;") ∈ lw_all := lw_g (lw_at lw_m5 111 rfl) rfl
theorem q1351 : (Jvm.Cond.selects "java/util/LinkedList" ({ cls := "java/util/List", name := "contains", desc := "(Ljava/lang/Object;)Z" } : Jvm.MethodName) ({ cls := "java/util/LinkedList", name := "contains", desc := "(Ljava/lang/Object;)Z" } : Jvm.MethodName)) ∈ lw_all := lw_g (lw_at lw_m6 15 rfl) rfl
theorem q1352 : (Jvm.Cond.unhidden "java/util/LinkedList" "contains" "(Ljava/lang/Object;)Z") ∈ lw_tbl := lw_at lw_m6 16 rfl
theorem q1353 : (Jvm.Cond.instanceMethod ({ cls := "java/util/LinkedList", name := "contains", desc := "(Ljava/lang/Object;)Z" } : Jvm.MethodName)) ∈ lw_all := lw_g (lw_at lw_m6 17 rfl) rfl
theorem q1354 : (Jvm.Cond.publicMethod ({ cls := "java/util/LinkedList", name := "contains", desc := "(Ljava/lang/Object;)Z" } : Jvm.MethodName)) ∈ lw_tbl := lw_at lw_m6 18 rfl
theorem q1355 : (Jvm.Cond.code ({ cls := "java/util/LinkedList", name := "contains", desc := "(Ljava/lang/Object;)Z" } : Jvm.MethodName) prog_64_method_15_code (2 : Nat) (Option.some Jvm.ClassFile.FieldType.boolean)) ∈ lw_all := lw_g (lw_at lw_m6 19 rfl) rfl
theorem q1356 : (Jvm.Cond.methodLink "java/util/LinkedList" (60 : Nat) ({ cls := "java/util/LinkedList", name := "indexOf", desc := "(Ljava/lang/Object;)I" } : Jvm.MethodName)) ∈ lw_all := lw_g (lw_at lw_m6 20 rfl) rfl
theorem q1357 : (Jvm.Cond.instanceMethod ({ cls := "java/util/LinkedList", name := "indexOf", desc := "(Ljava/lang/Object;)I" } : Jvm.MethodName)) ∈ lw_all := lw_g (lw_at lw_m6 21 rfl) rfl
theorem q1358 : (Jvm.Cond.selects "java/util/LinkedList" ({ cls := "java/util/LinkedList", name := "indexOf", desc := "(Ljava/lang/Object;)I" } : Jvm.MethodName) ({ cls := "java/util/LinkedList", name := "indexOf", desc := "(Ljava/lang/Object;)I" } : Jvm.MethodName)) ∈ lw_all := lw_g (lw_at lw_m6 22 rfl) rfl
theorem q1359 : (Jvm.Cond.code ({ cls := "java/util/LinkedList", name := "indexOf", desc := "(Ljava/lang/Object;)I" } : Jvm.MethodName) prog_64_method_32_code (4 : Nat) (Option.some Jvm.ClassFile.FieldType.int)) ∈ lw_all := lw_g (lw_at lw_m6 23 rfl) rfl
theorem q1360 : (Jvm.Cond.methodLink "java/util/LinkedList" (67 : Nat) ({ cls := "java/lang/Object", name := "equals", desc := "(Ljava/lang/Object;)Z" } : Jvm.MethodName)) ∈ lw_all := lw_g (lw_at lw_m6 24 rfl) rfl
theorem q1539 : (Jvm.Cond.selects "java/util/LinkedList" ({ cls := "java/util/List", name := "isEmpty", desc := "()Z" } : Jvm.MethodName) ({ cls := "java/util/AbstractCollection", name := "isEmpty", desc := "()Z" } : Jvm.MethodName)) ∈ lw_all := lw_g (lw_at lw_m6 203 rfl) rfl
theorem q1540 : (Jvm.Cond.unhidden "java/util/LinkedList" "isEmpty" "()Z") ∈ lw_tbl := lw_at lw_m6 204 rfl
theorem q1551 : (Jvm.Cond.selects "java/util/LinkedList" ({ cls := "java/util/AbstractCollection", name := "size", desc := "()I" } : Jvm.MethodName) ({ cls := "java/util/LinkedList", name := "size", desc := "()I" } : Jvm.MethodName)) ∈ lw_all := lw_g (lw_at lw_m6 215 rfl) rfl
theorem q1617 : (Jvm.Cond.selects "java/util/LinkedList" ({ cls := "java/util/List", name := "get", desc := "(I)Ljava/lang/Object;" } : Jvm.MethodName) ({ cls := "java/util/LinkedList", name := "get", desc := "(I)Ljava/lang/Object;" } : Jvm.MethodName)) ∈ lw_all := lw_g (lw_at lw_m7 41 rfl) rfl
theorem q1618 : (Jvm.Cond.unhidden "java/util/LinkedList" "get" "(I)Ljava/lang/Object;") ∈ lw_tbl := lw_at lw_m7 42 rfl
theorem q1619 : (Jvm.Cond.instanceMethod ({ cls := "java/util/LinkedList", name := "get", desc := "(I)Ljava/lang/Object;" } : Jvm.MethodName)) ∈ lw_all := lw_g (lw_at lw_m7 43 rfl) rfl
theorem q1620 : (Jvm.Cond.publicMethod ({ cls := "java/util/LinkedList", name := "get", desc := "(I)Ljava/lang/Object;" } : Jvm.MethodName)) ∈ lw_tbl := lw_at lw_m7 44 rfl
theorem q1621 : (Jvm.Cond.code ({ cls := "java/util/LinkedList", name := "get", desc := "(I)Ljava/lang/Object;" } : Jvm.MethodName) prog_64_method_22_code (2 : Nat) (Option.some (Jvm.ClassFile.FieldType.object "java/lang/Object"))) ∈ lw_all := lw_g (lw_at lw_m7 45 rfl) rfl
theorem q1622 : (Jvm.Cond.methodLink "java/util/LinkedList" (90 : Nat) ({ cls := "java/util/LinkedList", name := "checkElementIndex", desc := "(I)V" } : Jvm.MethodName)) ∈ lw_all := lw_g (lw_at lw_m7 46 rfl) rfl
theorem q1623 : (Jvm.Cond.privateMethod ({ cls := "java/util/LinkedList", name := "checkElementIndex", desc := "(I)V" } : Jvm.MethodName)) ∈ lw_tbl := lw_at lw_m7 47 rfl
theorem q1624 : (Jvm.Cond.instanceMethod ({ cls := "java/util/LinkedList", name := "checkElementIndex", desc := "(I)V" } : Jvm.MethodName)) ∈ lw_all := lw_g (lw_at lw_m7 48 rfl) rfl
theorem q1625 : (Jvm.Cond.instantiable "java/util/LinkedList" (4 : Nat)) ∈ lw_all := lw_g (lw_at lw_m7 49 rfl) rfl
theorem q1626 : (Jvm.Cond.code ({ cls := "java/util/LinkedList", name := "checkElementIndex", desc := "(I)V" } : Jvm.MethodName) prog_64_method_29_code (2 : Nat) (Option.none : Option Jvm.ClassFile.FieldType)) ∈ lw_all := lw_g (lw_at lw_m7 50 rfl) rfl
theorem q1627 : (Jvm.Cond.methodLink "java/util/LinkedList" (115 : Nat) ({ cls := "java/util/LinkedList", name := "isElementIndex", desc := "(I)Z" } : Jvm.MethodName)) ∈ lw_all := lw_g (lw_at lw_m7 51 rfl) rfl
theorem q1628 : (Jvm.Cond.privateMethod ({ cls := "java/util/LinkedList", name := "isElementIndex", desc := "(I)Z" } : Jvm.MethodName)) ∈ lw_tbl := lw_at lw_m7 52 rfl
theorem q1629 : (Jvm.Cond.instanceMethod ({ cls := "java/util/LinkedList", name := "isElementIndex", desc := "(I)Z" } : Jvm.MethodName)) ∈ lw_all := lw_g (lw_at lw_m7 53 rfl) rfl
theorem q1630 : (Jvm.Cond.code ({ cls := "java/util/LinkedList", name := "isElementIndex", desc := "(I)Z" } : Jvm.MethodName) prog_64_method_26_code (2 : Nat) (Option.some Jvm.ClassFile.FieldType.boolean)) ∈ lw_all := lw_g (lw_at lw_m7 54 rfl) rfl
theorem q1631 : (Jvm.Cond.classLink "java/util/LinkedList" (119 : Nat) "java/lang/IndexOutOfBoundsException") ∈ lw_all := lw_g (lw_at lw_m7 55 rfl) rfl
theorem q1632 : (Jvm.Cond.methodLink "java/util/LinkedList" (121 : Nat) ({ cls := "java/util/LinkedList", name := "outOfBoundsMsg", desc := "(I)Ljava/lang/String;" } : Jvm.MethodName)) ∈ lw_all := lw_g (lw_at lw_m7 56 rfl) rfl
theorem q1633 : (Jvm.Cond.privateMethod ({ cls := "java/util/LinkedList", name := "outOfBoundsMsg", desc := "(I)Ljava/lang/String;" } : Jvm.MethodName)) ∈ lw_tbl := lw_at lw_m7 57 rfl
theorem q1634 : (Jvm.Cond.instanceMethod ({ cls := "java/util/LinkedList", name := "outOfBoundsMsg", desc := "(I)Ljava/lang/String;" } : Jvm.MethodName)) ∈ lw_all := lw_g (lw_at lw_m7 58 rfl) rfl
theorem q1635 : (Jvm.Cond.code ({ cls := "java/util/LinkedList", name := "outOfBoundsMsg", desc := "(I)Ljava/lang/String;" } : Jvm.MethodName) prog_64_method_28_code (2 : Nat) (Option.some (Jvm.ClassFile.FieldType.object "java/lang/String"))) ∈ lw_all := lw_g (lw_at lw_m7 59 rfl) rfl
theorem q1636 : (Jvm.Cond.classLink "java/util/LinkedList" (97 : Nat) "java/lang/StringBuilder") ∈ lw_all := lw_g (lw_at lw_m7 60 rfl) rfl
theorem q1637 : (Jvm.Cond.methodLink "java/util/LinkedList" (99 : Nat) ({ cls := "java/lang/StringBuilder", name := "<init>", desc := "()V" } : Jvm.MethodName)) ∈ lw_all := lw_g (lw_at lw_m7 61 rfl) rfl
theorem q1638 : (Jvm.Cond.stringRef "java/util/LinkedList" (100 : Nat) "Index: ") ∈ lw_tbl := lw_at lw_m7 62 rfl
theorem q1639 : (Jvm.Cond.methodLink "java/util/LinkedList" (102 : Nat) ({ cls := "java/lang/StringBuilder", name := "append", desc := "(Ljava/lang/String;)Ljava/lang/StringBuilder;" } : Jvm.MethodName)) ∈ lw_all := lw_g (lw_at lw_m7 63 rfl) rfl
theorem q1640 : (Jvm.Cond.methodLink "java/util/LinkedList" (106 : Nat) ({ cls := "java/lang/StringBuilder", name := "append", desc := "(I)Ljava/lang/StringBuilder;" } : Jvm.MethodName)) ∈ lw_all := lw_g (lw_at lw_m7 64 rfl) rfl
theorem q1641 : (Jvm.Cond.stringRef "java/util/LinkedList" (109 : Nat) ", Size: ") ∈ lw_tbl := lw_at lw_m7 65 rfl
theorem q1642 : (Jvm.Cond.methodLink "java/util/LinkedList" (111 : Nat) ({ cls := "java/lang/StringBuilder", name := "toString", desc := "()Ljava/lang/String;" } : Jvm.MethodName)) ∈ lw_all := lw_g (lw_at lw_m7 66 rfl) rfl
theorem q1643 : (Jvm.Cond.methodLink "java/util/LinkedList" (125 : Nat) ({ cls := "java/lang/IndexOutOfBoundsException", name := "<init>", desc := "(Ljava/lang/String;)V" } : Jvm.MethodName)) ∈ lw_all := lw_g (lw_at lw_m7 67 rfl) rfl
theorem q1644 : (Jvm.Cond.methodLink "java/util/LinkedList" (86 : Nat) ({ cls := "java/util/LinkedList", name := "node", desc := "(I)Ljava/util/LinkedList$Node;" } : Jvm.MethodName)) ∈ lw_all := lw_g (lw_at lw_m7 68 rfl) rfl
theorem q1645 : (Jvm.Cond.instanceMethod ({ cls := "java/util/LinkedList", name := "node", desc := "(I)Ljava/util/LinkedList$Node;" } : Jvm.MethodName)) ∈ lw_all := lw_g (lw_at lw_m7 69 rfl) rfl
theorem q1646 : (Jvm.Cond.selects "java/util/LinkedList" ({ cls := "java/util/LinkedList", name := "node", desc := "(I)Ljava/util/LinkedList$Node;" } : Jvm.MethodName) ({ cls := "java/util/LinkedList", name := "node", desc := "(I)Ljava/util/LinkedList$Node;" } : Jvm.MethodName)) ∈ lw_all := lw_g (lw_at lw_m7 70 rfl) rfl
theorem q1647 : (Jvm.Cond.code ({ cls := "java/util/LinkedList", name := "node", desc := "(I)Ljava/util/LinkedList$Node;" } : Jvm.MethodName) prog_64_method_31_code (4 : Nat) (Option.some (Jvm.ClassFile.FieldType.object "java/util/LinkedList$Node"))) ∈ lw_all := lw_g (lw_at lw_m7 71 rfl) rfl
theorem q2063 : (Jvm.Cond.instanceMethod ({ cls := "java/util/LinkedList", name := "<init>", desc := "()V" } : Jvm.MethodName)) ∈ lw_all := lw_g (lw_at lw_m9 7 rfl) rfl
theorem q2064 : (Jvm.Cond.code ({ cls := "java/util/LinkedList", name := "<init>", desc := "()V" } : Jvm.MethodName) prog_64_method_1_code (1 : Nat) (Option.none : Option Jvm.ClassFile.FieldType)) ∈ lw_all := lw_g (lw_at lw_m9 8 rfl) rfl
theorem q2065 : (Jvm.Cond.methodLink "java/util/LinkedList" (1 : Nat) ({ cls := "java/util/AbstractSequentialList", name := "<init>", desc := "()V" } : Jvm.MethodName)) ∈ lw_all := lw_g (lw_at lw_m9 9 rfl) rfl
theorem q2069 : (Jvm.Cond.fieldLink "java/util/LinkedList" (7 : Nat) "java/util/LinkedList" "size" "I") ∈ lw_all := lw_g (lw_at lw_m9 13 rfl) rfl
theorem q2071 : (Jvm.Cond.fieldLink "java/util/LinkedList" (18 : Nat) "java/util/LinkedList" "first" "Ljava/util/LinkedList$Node;") ∈ lw_all := lw_g (lw_at lw_m9 15 rfl) rfl
theorem q2072 : (Jvm.Cond.fieldLink "java/util/LinkedList" (27 : Nat) "java/util/LinkedList" "last" "Ljava/util/LinkedList$Node;") ∈ lw_all := lw_g (lw_at lw_m9 16 rfl) rfl
theorem q2073 : (Jvm.Cond.lays "java/util/LinkedList" "java/util/LinkedList" "size" "I") ∈ lw_all := lw_g (lw_at lw_m9 17 rfl) rfl
theorem q2074 : (Jvm.Cond.soleField "java/util/LinkedList" "size") ∈ lw_all := lw_g (lw_at lw_m9 18 rfl) rfl
theorem q2075 : (Jvm.Cond.lays "java/util/LinkedList" "java/util/LinkedList" "first" "Ljava/util/LinkedList$Node;") ∈ lw_all := lw_g (lw_at lw_m9 19 rfl) rfl
theorem q2076 : (Jvm.Cond.soleField "java/util/LinkedList" "first") ∈ lw_all := lw_g (lw_at lw_m9 20 rfl) rfl
theorem q2077 : (Jvm.Cond.lays "java/util/LinkedList" "java/util/LinkedList" "last" "Ljava/util/LinkedList$Node;") ∈ lw_all := lw_g (lw_at lw_m9 21 rfl) rfl
theorem q2078 : (Jvm.Cond.soleField "java/util/LinkedList" "last") ∈ lw_all := lw_g (lw_at lw_m9 22 rfl) rfl
theorem q2079 : (Jvm.Cond.lays "java/util/LinkedList" "java/util/AbstractList" "modCount" "I") ∈ lw_all := lw_g (lw_at lw_m9 23 rfl) rfl
theorem q2080 : (Jvm.Cond.superclass "java/util/LinkedList" "java/util/AbstractSequentialList") ∈ lw_all := lw_g (lw_at lw_m9 24 rfl) rfl
theorem q2082 : (Jvm.Cond.sameMethod "java/util/LinkedList" "java/util/AbstractSequentialList" "iterator" "()Ljava/util/Iterator;") ∈ lw_all := lw_g (lw_at lw_m9 26 rfl) rfl
theorem q2084 : (Jvm.Cond.selects "java/util/LinkedList" ({ cls := "java/util/LinkedList", name := "iterator", desc := "()Ljava/util/Iterator;" } : Jvm.MethodName) ({ cls := "java/util/AbstractSequentialList", name := "iterator", desc := "()Ljava/util/Iterator;" } : Jvm.MethodName)) ∈ lw_all := lw_g (lw_at lw_m9 28 rfl) rfl
theorem q2090 : (Jvm.Cond.selects "java/util/LinkedList" ({ cls := "java/util/AbstractSequentialList", name := "listIterator", desc := "()Ljava/util/ListIterator;" } : Jvm.MethodName) ({ cls := "java/util/AbstractList", name := "listIterator", desc := "()Ljava/util/ListIterator;" } : Jvm.MethodName)) ∈ lw_all := lw_g (lw_at lw_m9 34 rfl) rfl
theorem q2138 : (Jvm.Cond.selects "java/util/LinkedList" ({ cls := "java/util/AbstractList", name := "listIterator", desc := "(I)Ljava/util/ListIterator;" } : Jvm.MethodName) ({ cls := "java/util/LinkedList", name := "listIterator", desc := "(I)Ljava/util/ListIterator;" } : Jvm.MethodName)) ∈ lw_all := lw_g (lw_at lw_m9 82 rfl) rfl
theorem q2139 : (Jvm.Cond.instanceMethod ({ cls := "java/util/LinkedList", name := "listIterator", desc := "(I)Ljava/util/ListIterator;" } : Jvm.MethodName)) ∈ lw_all := lw_g (lw_at lw_m9 83 rfl) rfl
theorem q2140 : (Jvm.Cond.code ({ cls := "java/util/LinkedList", name := "listIterator", desc := "(I)Ljava/util/ListIterator;" } : Jvm.MethodName) prog_64_method_49_code (2 : Nat) (Option.some (Jvm.ClassFile.FieldType.object "java/util/ListIterator"))) ∈ lw_all := lw_g (lw_at lw_m9 84 rfl) rfl
theorem q2141 : (Jvm.Cond.methodLink "java/util/LinkedList" (76 : Nat) ({ cls := "java/util/LinkedList", name := "checkPositionIndex", desc := "(I)V" } : Jvm.MethodName)) ∈ lw_all := lw_g (lw_at lw_m9 85 rfl) rfl
theorem q2142 : (Jvm.Cond.privateMethod ({ cls := "java/util/LinkedList", name := "checkPositionIndex", desc := "(I)V" } : Jvm.MethodName)) ∈ lw_tbl := lw_at lw_m9 86 rfl
theorem q2143 : (Jvm.Cond.instanceMethod ({ cls := "java/util/LinkedList", name := "checkPositionIndex", desc := "(I)V" } : Jvm.MethodName)) ∈ lw_all := lw_g (lw_at lw_m9 87 rfl) rfl
theorem q2144 : (Jvm.Cond.code ({ cls := "java/util/LinkedList", name := "checkPositionIndex", desc := "(I)V" } : Jvm.MethodName) prog_64_method_30_code (2 : Nat) (Option.none : Option Jvm.ClassFile.FieldType)) ∈ lw_all := lw_g (lw_at lw_m9 88 rfl) rfl
theorem q2145 : (Jvm.Cond.methodLink "java/util/LinkedList" (128 : Nat) ({ cls := "java/util/LinkedList", name := "isPositionIndex", desc := "(I)Z" } : Jvm.MethodName)) ∈ lw_all := lw_g (lw_at lw_m9 89 rfl) rfl
theorem q2146 : (Jvm.Cond.privateMethod ({ cls := "java/util/LinkedList", name := "isPositionIndex", desc := "(I)Z" } : Jvm.MethodName)) ∈ lw_tbl := lw_at lw_m9 90 rfl
theorem q2147 : (Jvm.Cond.instanceMethod ({ cls := "java/util/LinkedList", name := "isPositionIndex", desc := "(I)Z" } : Jvm.MethodName)) ∈ lw_all := lw_g (lw_at lw_m9 91 rfl) rfl
theorem q2148 : (Jvm.Cond.code ({ cls := "java/util/LinkedList", name := "isPositionIndex", desc := "(I)Z" } : Jvm.MethodName) prog_64_method_27_code (2 : Nat) (Option.some Jvm.ClassFile.FieldType.boolean)) ∈ lw_all := lw_g (lw_at lw_m9 92 rfl) rfl
theorem q2149 : (Jvm.Cond.classLink "java/util/LinkedList" (150 : Nat) "java/util/LinkedList$ListItr") ∈ lw_all := lw_g (lw_at lw_m9 93 rfl) rfl
theorem q2151 : (Jvm.Cond.methodLink "java/util/LinkedList" (152 : Nat) ({ cls := "java/util/LinkedList$ListItr", name := "<init>", desc := "(Ljava/util/LinkedList;I)V" } : Jvm.MethodName)) ∈ lw_all := lw_g (lw_at lw_m9 95 rfl) rfl
theorem q2186 : (Jvm.Cond.selects "java/util/LinkedList" ({ cls := "java/util/AbstractList", name := "size", desc := "()I" } : Jvm.MethodName) ({ cls := "java/util/LinkedList", name := "size", desc := "()I" } : Jvm.MethodName)) ∈ lw_all := lw_g (lw_at lw_m9 130 rfl) rfl
theorem q2217 : (Jvm.Cond.selects "java/util/LinkedList" ({ cls := "java/util/AbstractList", name := "get", desc := "(I)Ljava/lang/Object;" } : Jvm.MethodName) ({ cls := "java/util/LinkedList", name := "get", desc := "(I)Ljava/lang/Object;" } : Jvm.MethodName)) ∈ lw_all := lw_g (lw_at lw_m9 161 rfl) rfl
theorem q2322 : (Jvm.Cond.instanceMethod ({ cls := "java/util/LinkedList", name := "add", desc := "(ILjava/lang/Object;)V" } : Jvm.MethodName)) ∈ lw_all := lw_g (lw_at lw_m10 26 rfl) rfl
theorem q2323 : (Jvm.Cond.selects "java/util/LinkedList" ({ cls := "java/util/LinkedList", name := "add", desc := "(ILjava/lang/Object;)V" } : Jvm.MethodName) ({ cls := "java/util/LinkedList", name := "add", desc := "(ILjava/lang/Object;)V" } : Jvm.MethodName)) ∈ lw_all := lw_g (lw_at lw_m10 27 rfl) rfl
theorem q2324 : (Jvm.Cond.code ({ cls := "java/util/LinkedList", name := "add", desc := "(ILjava/lang/Object;)V" } : Jvm.MethodName) prog_64_method_24_code (3 : Nat) (Option.none : Option Jvm.ClassFile.FieldType)) ∈ lw_all := lw_g (lw_at lw_m10 28 rfl) rfl
theorem q2325 : (Jvm.Cond.methodLink "java/util/LinkedList" (93 : Nat) ({ cls := "java/util/LinkedList", name := "linkBefore", desc := "(Ljava/lang/Object;Ljava/util/LinkedList$Node;)V" } : Jvm.MethodName)) ∈ lw_all := lw_g (lw_at lw_m10 29 rfl) rfl
theorem q2326 : (Jvm.Cond.instanceMethod ({ cls := "java/util/LinkedList", name := "linkBefore", desc := "(Ljava/lang/Object;Ljava/util/LinkedList$Node;)V" } : Jvm.MethodName)) ∈ lw_all := lw_g (lw_at lw_m10 30 rfl) rfl
theorem q2327 : (Jvm.Cond.selects "java/util/LinkedList" ({ cls := "java/util/LinkedList", name := "linkBefore", desc := "(Ljava/lang/Object;Ljava/util/LinkedList$Node;)V" } : Jvm.MethodName) ({ cls := "java/util/LinkedList", name := "linkBefore", desc := "(Ljava/lang/Object;Ljava/util/LinkedList$Node;)V" } : Jvm.MethodName)) ∈ lw_all := lw_g (lw_at lw_m10 31 rfl) rfl
theorem q2328 : (Jvm.Cond.code ({ cls := "java/util/LinkedList", name := "linkBefore", desc := "(Ljava/lang/Object;Ljava/util/LinkedList$Node;)V" } : Jvm.MethodName) prog_64_method_5_code (5 : Nat) (Option.none : Option Jvm.ClassFile.FieldType)) ∈ lw_all := lw_g (lw_at lw_m10 32 rfl) rfl
theorem q3653 : (Jvm.Cond.selects "java/util/LinkedList" ({ cls := "java/util/LinkedList", name := "size", desc := "()I" } : Jvm.MethodName) ({ cls := "java/util/LinkedList", name := "size", desc := "()I" } : Jvm.MethodName)) ∈ lw_all := lw_g (lw_at lw_m15 157 rfl) rfl
theorem q3654 : (Jvm.Cond.selects "java/util/LinkedList" ({ cls := "java/util/LinkedList", name := "get", desc := "(I)Ljava/lang/Object;" } : Jvm.MethodName) ({ cls := "java/util/LinkedList", name := "get", desc := "(I)Ljava/lang/Object;" } : Jvm.MethodName)) ∈ lw_all := lw_g (lw_at lw_m15 158 rfl) rfl
theorem q3684 : (Jvm.Cond.castable "java/util/LinkedList" "java/lang/Object") ∈ lw_tbl := lw_at lw_m15 188 rfl
theorem q183 : (Jvm.Cond.initialized "java/util/AbstractList$Itr") ∈ lw_all := lw_g (lw_at lw_m1 47 rfl) rfl
theorem q736 : (Jvm.Cond.fieldLink "java/util/AbstractList$Itr" (20 : Nat) "java/util/AbstractList" "modCount" "I") ∈ lw_all := lw_g (lw_at lw_m3 120 rfl) rfl
theorem q2180 : (Jvm.Cond.instanceMethod ({ cls := "java/util/AbstractList$Itr", name := "hasNext", desc := "()Z" } : Jvm.MethodName)) ∈ lw_all := lw_g (lw_at lw_m9 124 rfl) rfl
theorem q2181 : (Jvm.Cond.publicMethod ({ cls := "java/util/AbstractList$Itr", name := "hasNext", desc := "()Z" } : Jvm.MethodName)) ∈ lw_tbl := lw_at lw_m9 125 rfl
theorem q2182 : (Jvm.Cond.code ({ cls := "java/util/AbstractList$Itr", name := "hasNext", desc := "()Z" } : Jvm.MethodName) prog_46_method_2_code (1 : Nat) (Option.some Jvm.ClassFile.FieldType.boolean)) ∈ lw_all := lw_g (lw_at lw_m9 126 rfl) rfl
theorem q2183 : (Jvm.Cond.methodLink "java/util/AbstractList$Itr" (28 : Nat) ({ cls := "java/util/AbstractList", name := "size", desc := "()I" } : Jvm.MethodName)) ∈ lw_all := lw_g (lw_at lw_m9 127 rfl) rfl
theorem q2205 : (Jvm.Cond.instanceMethod ({ cls := "java/util/AbstractList$Itr", name := "next", desc := "()Ljava/lang/Object;" } : Jvm.MethodName)) ∈ lw_all := lw_g (lw_at lw_m9 149 rfl) rfl
theorem q2206 : (Jvm.Cond.publicMethod ({ cls := "java/util/AbstractList$Itr", name := "next", desc := "()Ljava/lang/Object;" } : Jvm.MethodName)) ∈ lw_tbl := lw_at lw_m9 150 rfl
theorem q2207 : (Jvm.Cond.codeWith ({ cls := "java/util/AbstractList$Itr", name := "next", desc := "()Ljava/lang/Object;" } : Jvm.MethodName) prog_46_method_3_code (3 : Nat) (Option.some (Jvm.ClassFile.FieldType.object "java/lang/Object")) [((4 : Nat), (31 : Nat), (32 : Nat), (39 : Nat))]) ∈ lw_all := lw_g (lw_at lw_m9 151 rfl) rfl
theorem q2208 : (Jvm.Cond.methodLink "java/util/AbstractList$Itr" (32 : Nat) ({ cls := "java/util/AbstractList$Itr", name := "checkForComodification", desc := "()V" } : Jvm.MethodName)) ∈ lw_all := lw_g (lw_at lw_m9 152 rfl) rfl
theorem q2209 : (Jvm.Cond.instanceMethod ({ cls := "java/util/AbstractList$Itr", name := "checkForComodification", desc := "()V" } : Jvm.MethodName)) ∈ lw_all := lw_g (lw_at lw_m9 153 rfl) rfl
theorem q2210 : (Jvm.Cond.sameMethod "java/util/AbstractList$Itr" "java/util/AbstractList$Itr" "checkForComodification" "()V") ∈ lw_all := lw_g (lw_at lw_m9 154 rfl) rfl
theorem q2212 : (Jvm.Cond.code ({ cls := "java/util/AbstractList$Itr", name := "checkForComodification", desc := "()V" } : Jvm.MethodName) prog_46_method_5_code (1 : Nat) (Option.none : Option Jvm.ClassFile.FieldType)) ∈ lw_all := lw_g (lw_at lw_m9 156 rfl) rfl
theorem q2213 : (Jvm.Cond.methodLink "java/util/AbstractList$Itr" (35 : Nat) ({ cls := "java/util/AbstractList", name := "get", desc := "(I)Ljava/lang/Object;" } : Jvm.MethodName)) ∈ lw_all := lw_g (lw_at lw_m9 157 rfl) rfl
theorem q2218 : (Jvm.Cond.classLink "java/util/AbstractList$Itr" (41 : Nat) "java/util/NoSuchElementException") ∈ lw_all := lw_g (lw_at lw_m9 162 rfl) rfl
theorem q2227 : (Jvm.Cond.methodLink "java/util/AbstractList$Itr" (43 : Nat) ({ cls := "java/util/NoSuchElementException", name := "<init>", desc := "(Ljava/lang/Throwable;)V" } : Jvm.MethodName)) ∈ lw_all := lw_g (lw_at lw_m9 171 rfl) rfl
theorem q3709 : (Jvm.Cond.fieldLink "java/util/AbstractList$Itr" (1 : Nat) "java/util/AbstractList$Itr" "this$0" "Ljava/util/AbstractList;") ∈ lw_all := lw_g (lw_at lw_m15 213 rfl) rfl
theorem q3710 : (Jvm.Cond.fieldLink "java/util/AbstractList$Itr" (13 : Nat) "java/util/AbstractList$Itr" "cursor" "I") ∈ lw_all := lw_g (lw_at lw_m15 214 rfl) rfl
theorem q3711 : (Jvm.Cond.fieldLink "java/util/AbstractList$Itr" (17 : Nat) "java/util/AbstractList$Itr" "lastRet" "I") ∈ lw_all := lw_g (lw_at lw_m15 215 rfl) rfl
theorem q3712 : (Jvm.Cond.fieldLink "java/util/AbstractList$Itr" (25 : Nat) "java/util/AbstractList$Itr" "expectedModCount" "I") ∈ lw_all := lw_g (lw_at lw_m15 216 rfl) rfl
theorem q185 : (Jvm.Cond.initialized "java/util/ArrayList$Itr") ∈ lw_all := lw_g (lw_at lw_m1 49 rfl) rfl
theorem q728 : (Jvm.Cond.fieldLink "java/util/ArrayList$Itr" (37 : Nat) "java/util/ArrayList" "elementData" "[Ljava/lang/Object;") ∈ lw_all := lw_g (lw_at lw_m3 112 rfl) rfl
theorem q729 : (Jvm.Cond.fieldLinkNest "java/util/ArrayList$Itr" (28 : Nat) "java/util/ArrayList" "size" "I" "java/util/ArrayList") ∈ lw_tbl := lw_at lw_m3 113 rfl
theorem q734 : (Jvm.Cond.fieldLink "java/util/ArrayList$Itr" (17 : Nat) "java/util/ArrayList" "modCount" "I") ∈ lw_all := lw_g (lw_at lw_m3 118 rfl) rfl
theorem q2117 : (Jvm.Cond.instanceMethod ({ cls := "java/util/ArrayList$Itr", name := "<init>", desc := "(Ljava/util/ArrayList;)V" } : Jvm.MethodName)) ∈ lw_all := lw_g (lw_at lw_m9 61 rfl) rfl
theorem q2118 : (Jvm.Cond.code ({ cls := "java/util/ArrayList$Itr", name := "<init>", desc := "(Ljava/util/ArrayList;)V" } : Jvm.MethodName) prog_51_method_1_code (2 : Nat) (Option.none : Option Jvm.ClassFile.FieldType)) ∈ lw_all := lw_g (lw_at lw_m9 62 rfl) rfl
theorem q2119 : (Jvm.Cond.methodLink "java/util/ArrayList$Itr" (7 : Nat) ({ cls := "java/lang/Object", name := "<init>", desc := "()V" } : Jvm.MethodName)) ∈ lw_all := lw_g (lw_at lw_m9 63 rfl) rfl
theorem q2123 : (Jvm.Cond.fieldLink "java/util/ArrayList$Itr" (25 : Nat) "java/util/ArrayList$Itr" "cursor" "I") ∈ lw_all := lw_g (lw_at lw_m9 67 rfl) rfl
theorem q2124 : (Jvm.Cond.fieldLink "java/util/ArrayList$Itr" (13 : Nat) "java/util/ArrayList$Itr" "lastRet" "I") ∈ lw_all := lw_g (lw_at lw_m9 68 rfl) rfl
theorem q2125 : (Jvm.Cond.fieldLink "java/util/ArrayList$Itr" (22 : Nat) "java/util/ArrayList$Itr" "expectedModCount" "I") ∈ lw_all := lw_g (lw_at lw_m9 69 rfl) rfl
theorem q2126 : (Jvm.Cond.fieldLink "java/util/ArrayList$Itr" (1 : Nat) "java/util/ArrayList$Itr" "this$0" "Ljava/util/ArrayList;") ∈ lw_all := lw_g (lw_at lw_m9 70 rfl) rfl
theorem q2130 : (Jvm.Cond.soleField "java/util/ArrayList$Itr" "cursor") ∈ lw_all := lw_g (lw_at lw_m9 74 rfl) rfl
theorem q2132 : (Jvm.Cond.soleField "java/util/ArrayList$Itr" "lastRet") ∈ lw_all := lw_g (lw_at lw_m9 76 rfl) rfl
theorem q2134 : (Jvm.Cond.soleField "java/util/ArrayList$Itr" "expectedModCount") ∈ lw_all := lw_g (lw_at lw_m9 78 rfl) rfl
theorem q2136 : (Jvm.Cond.soleField "java/util/ArrayList$Itr" "this$0") ∈ lw_all := lw_g (lw_at lw_m9 80 rfl) rfl
theorem q2190 : (Jvm.Cond.instanceMethod ({ cls := "java/util/ArrayList$Itr", name := "hasNext", desc := "()Z" } : Jvm.MethodName)) ∈ lw_all := lw_g (lw_at lw_m9 134 rfl) rfl
theorem q2191 : (Jvm.Cond.publicMethod ({ cls := "java/util/ArrayList$Itr", name := "hasNext", desc := "()Z" } : Jvm.MethodName)) ∈ lw_tbl := lw_at lw_m9 135 rfl
theorem q2192 : (Jvm.Cond.code ({ cls := "java/util/ArrayList$Itr", name := "hasNext", desc := "()Z" } : Jvm.MethodName) prog_51_method_2_code (1 : Nat) (Option.some Jvm.ClassFile.FieldType.boolean)) ∈ lw_all := lw_g (lw_at lw_m9 136 rfl) rfl
theorem q2282 : (Jvm.Cond.instanceMethod ({ cls := "java/util/ArrayList$Itr", name := "next", desc := "()Ljava/lang/Object;" } : Jvm.MethodName)) ∈ lw_all := lw_g (lw_at lw_m9 226 rfl) rfl
theorem q2283 : (Jvm.Cond.publicMethod ({ cls := "java/util/ArrayList$Itr", name := "next", desc := "()Ljava/lang/Object;" } : Jvm.MethodName)) ∈ lw_tbl := lw_at lw_m9 227 rfl
theorem q2284 : (Jvm.Cond.code ({ cls := "java/util/ArrayList$Itr", name := "next", desc := "()Ljava/lang/Object;" } : Jvm.MethodName) prog_51_method_3_code (3 : Nat) (Option.some (Jvm.ClassFile.FieldType.object "java/lang/Object"))) ∈ lw_all := lw_g (lw_at lw_m9 228 rfl) rfl
theorem q2285 : (Jvm.Cond.methodLink "java/util/ArrayList$Itr" (31 : Nat) ({ cls := "java/util/ArrayList$Itr", name := "checkForComodification", desc := "()V" } : Jvm.MethodName)) ∈ lw_all := lw_g (lw_at lw_m9 229 rfl) rfl
theorem q2286 : (Jvm.Cond.instanceMethod ({ cls := "java/util/ArrayList$Itr", name := "checkForComodification", desc := "()V" } : Jvm.MethodName)) ∈ lw_all := lw_g (lw_at lw_m9 230 rfl) rfl
theorem q2287 : (Jvm.Cond.sameMethod "java/util/ArrayList$Itr" "java/util/ArrayList$Itr" "checkForComodification" "()V") ∈ lw_all := lw_g (lw_at lw_m9 231 rfl) rfl
theorem q2289 : (Jvm.Cond.code ({ cls := "java/util/ArrayList$Itr", name := "checkForComodification", desc := "()V" } : Jvm.MethodName) prog_51_method_6_code (1 : Nat) (Option.none : Option Jvm.ClassFile.FieldType)) ∈ lw_all := lw_g (lw_at lw_m9 233 rfl) rfl
theorem q186 : (Jvm.Cond.initialized "java/util/ArrayList$ListItr") ∈ lw_all := lw_g (lw_at lw_m1 50 rfl) rfl
theorem q1163 : (Jvm.Cond.selects "java/util/ArrayList$ListItr" ({ cls := "java/lang/Object", name := "getClass", desc := "()Ljava/lang/Class;" } : Jvm.MethodName) ({ cls := "java/lang/Object", name := "getClass", desc := "()Ljava/lang/Class;" } : Jvm.MethodName)) ∈ lw_all := lw_g (lw_at lw_m5 67 rfl) rfl
theorem q2112 : (Jvm.Cond.instantiable "java/util/ArrayList$ListItr" (5 : Nat)) ∈ lw_all := lw_g (lw_at lw_m9 56 rfl) rfl
theorem q2114 : (Jvm.Cond.instanceMethod ({ cls := "java/util/ArrayList$ListItr", name := "<init>", desc := "(Ljava/util/ArrayList;I)V" } : Jvm.MethodName)) ∈ lw_all := lw_g (lw_at lw_m9 58 rfl) rfl
theorem q2115 : (Jvm.Cond.code ({ cls := "java/util/ArrayList$ListItr", name := "<init>", desc := "(Ljava/util/ArrayList;I)V" } : Jvm.MethodName) prog_52_method_1_code (3 : Nat) (Option.none : Option Jvm.ClassFile.FieldType)) ∈ lw_all := lw_g (lw_at lw_m9 59 rfl) rfl
theorem q2116 : (Jvm.Cond.methodLink "java/util/ArrayList$ListItr" (7 : Nat) ({ cls := "java/util/ArrayList$Itr", name := "<init>", desc := "(Ljava/util/ArrayList;)V" } : Jvm.MethodName)) ∈ lw_all := lw_g (lw_at lw_m9 60 rfl) rfl
theorem q2120 : (Jvm.Cond.fieldLink "java/util/ArrayList$ListItr" (1 : Nat) "java/util/ArrayList$ListItr" "this$0" "Ljava/util/ArrayList;") ∈ lw_all := lw_g (lw_at lw_m9 64 rfl) rfl
theorem q2121 : (Jvm.Cond.fieldLink "java/util/ArrayList$ListItr" (13 : Nat) "java/util/ArrayList$ListItr" "cursor" "I") ∈ lw_all := lw_g (lw_at lw_m9 65 rfl) rfl
theorem q2122 : (Jvm.Cond.sameField "java/util/ArrayList$ListItr" "java/util/ArrayList$Itr" "cursor" "I") ∈ lw_all := lw_g (lw_at lw_m9 66 rfl) rfl
theorem q2127 : (Jvm.Cond.laysFinal "java/util/ArrayList$ListItr" "java/util/ArrayList$ListItr" "this$0" "Ljava/util/ArrayList;") ∈ lw_all := lw_g (lw_at lw_m9 71 rfl) rfl
theorem q2128 : (Jvm.Cond.soleField "java/util/ArrayList$ListItr" "this$0") ∈ lw_all := lw_g (lw_at lw_m9 72 rfl) rfl
theorem q2129 : (Jvm.Cond.lays "java/util/ArrayList$ListItr" "java/util/ArrayList$Itr" "cursor" "I") ∈ lw_all := lw_g (lw_at lw_m9 73 rfl) rfl
theorem q2131 : (Jvm.Cond.lays "java/util/ArrayList$ListItr" "java/util/ArrayList$Itr" "lastRet" "I") ∈ lw_all := lw_g (lw_at lw_m9 75 rfl) rfl
theorem q2133 : (Jvm.Cond.lays "java/util/ArrayList$ListItr" "java/util/ArrayList$Itr" "expectedModCount" "I") ∈ lw_all := lw_g (lw_at lw_m9 77 rfl) rfl
theorem q2135 : (Jvm.Cond.laysFinal "java/util/ArrayList$ListItr" "java/util/ArrayList$Itr" "this$0" "Ljava/util/ArrayList;") ∈ lw_all := lw_g (lw_at lw_m9 79 rfl) rfl
theorem q2137 : (Jvm.Cond.superclass "java/util/ArrayList$ListItr" "java/util/ArrayList$Itr") ∈ lw_all := lw_g (lw_at lw_m9 81 rfl) rfl
theorem q2187 : (Jvm.Cond.castable "java/util/ArrayList$ListItr" "java/util/Iterator") ∈ lw_tbl := lw_at lw_m9 131 rfl
theorem q2188 : (Jvm.Cond.selects "java/util/ArrayList$ListItr" ({ cls := "java/util/Iterator", name := "hasNext", desc := "()Z" } : Jvm.MethodName) ({ cls := "java/util/ArrayList$Itr", name := "hasNext", desc := "()Z" } : Jvm.MethodName)) ∈ lw_all := lw_g (lw_at lw_m9 132 rfl) rfl
theorem q2189 : (Jvm.Cond.unhidden "java/util/ArrayList$ListItr" "hasNext" "()Z") ∈ lw_tbl := lw_at lw_m9 133 rfl
theorem q2280 : (Jvm.Cond.selects "java/util/ArrayList$ListItr" ({ cls := "java/util/Iterator", name := "next", desc := "()Ljava/lang/Object;" } : Jvm.MethodName) ({ cls := "java/util/ArrayList$Itr", name := "next", desc := "()Ljava/lang/Object;" } : Jvm.MethodName)) ∈ lw_all := lw_g (lw_at lw_m9 224 rfl) rfl
theorem q2281 : (Jvm.Cond.unhidden "java/util/ArrayList$ListItr" "next" "()Ljava/lang/Object;") ∈ lw_tbl := lw_at lw_m9 225 rfl
theorem q2288 : (Jvm.Cond.selects "java/util/ArrayList$ListItr" ({ cls := "java/util/ArrayList$Itr", name := "checkForComodification", desc := "()V" } : Jvm.MethodName) ({ cls := "java/util/ArrayList$Itr", name := "checkForComodification", desc := "()V" } : Jvm.MethodName)) ∈ lw_all := lw_g (lw_at lw_m9 232 rfl) rfl
theorem q3686 : (Jvm.Cond.castable "java/util/ArrayList$ListItr" "java/lang/Object") ∈ lw_tbl := lw_at lw_m15 190 rfl
theorem q187 : (Jvm.Cond.initialized "java/util/LinkedList$ListItr") ∈ lw_all := lw_g (lw_at lw_m1 51 rfl) rfl
theorem q732 : (Jvm.Cond.fieldLink "java/util/LinkedList$ListItr" (13 : Nat) "java/util/LinkedList" "modCount" "I") ∈ lw_all := lw_g (lw_at lw_m3 116 rfl) rfl
theorem q1168 : (Jvm.Cond.selects "java/util/LinkedList$ListItr" ({ cls := "java/lang/Object", name := "getClass", desc := "()Ljava/lang/Class;" } : Jvm.MethodName) ({ cls := "java/lang/Object", name := "getClass", desc := "()Ljava/lang/Class;" } : Jvm.MethodName)) ∈ lw_all := lw_g (lw_at lw_m5 72 rfl) rfl
theorem q1201 : (Jvm.Cond.fieldLink "java/util/LinkedList$ListItr" (52 : Nat) "java/util/LinkedList$Node" "item" "Ljava/lang/Object;") ∈ lw_all := lw_g (lw_at lw_m5 105 rfl) rfl
theorem q1204 : (Jvm.Cond.fieldLink "java/util/LinkedList$ListItr" (49 : Nat) "java/util/LinkedList$Node" "next" "Ljava/util/LinkedList$Node;") ∈ lw_all := lw_g (lw_at lw_m5 108 rfl) rfl
theorem q2070 : (Jvm.Cond.fieldLink "java/util/LinkedList$ListItr" (22 : Nat) "java/util/LinkedList" "size" "I") ∈ lw_all := lw_g (lw_at lw_m9 14 rfl) rfl
theorem q2150 : (Jvm.Cond.instantiable "java/util/LinkedList$ListItr" (5 : Nat)) ∈ lw_all := lw_g (lw_at lw_m9 94 rfl) rfl
theorem q2152 : (Jvm.Cond.instanceMethod ({ cls := "java/util/LinkedList$ListItr", name := "<init>", desc := "(Ljava/util/LinkedList;I)V" } : Jvm.MethodName)) ∈ lw_all := lw_g (lw_at lw_m9 96 rfl) rfl
theorem q2153 : (Jvm.Cond.code ({ cls := "java/util/LinkedList$ListItr", name := "<init>", desc := "(Ljava/util/LinkedList;I)V" } : Jvm.MethodName) prog_65_method_1_code (3 : Nat) (Option.none : Option Jvm.ClassFile.FieldType)) ∈ lw_all := lw_g (lw_at lw_m9 97 rfl) rfl
theorem q2154 : (Jvm.Cond.methodLink "java/util/LinkedList$ListItr" (7 : Nat) ({ cls := "java/lang/Object", name := "<init>", desc := "()V" } : Jvm.MethodName)) ∈ lw_all := lw_g (lw_at lw_m9 98 rfl) rfl
theorem q2155 : (Jvm.Cond.methodLink "java/util/LinkedList$ListItr" (25 : Nat) ({ cls := "java/util/LinkedList", name := "node", desc := "(I)Ljava/util/LinkedList$Node;" } : Jvm.MethodName)) ∈ lw_all := lw_g (lw_at lw_m9 99 rfl) rfl
theorem q2156 : (Jvm.Cond.fieldLink "java/util/LinkedList$ListItr" (46 : Nat) "java/util/LinkedList$ListItr" "lastReturned" "Ljava/util/LinkedList$Node;") ∈ lw_all := lw_g (lw_at lw_m9 100 rfl) rfl
theorem q2157 : (Jvm.Cond.fieldLink "java/util/LinkedList$ListItr" (29 : Nat) "java/util/LinkedList$ListItr" "next" "Ljava/util/LinkedList$Node;") ∈ lw_all := lw_g (lw_at lw_m9 101 rfl) rfl
theorem q2158 : (Jvm.Cond.fieldLink "java/util/LinkedList$ListItr" (33 : Nat) "java/util/LinkedList$ListItr" "nextIndex" "I") ∈ lw_all := lw_g (lw_at lw_m9 102 rfl) rfl
theorem q2159 : (Jvm.Cond.fieldLink "java/util/LinkedList$ListItr" (19 : Nat) "java/util/LinkedList$ListItr" "expectedModCount" "I") ∈ lw_all := lw_g (lw_at lw_m9 103 rfl) rfl
theorem q2160 : (Jvm.Cond.fieldLink "java/util/LinkedList$ListItr" (1 : Nat) "java/util/LinkedList$ListItr" "this$0" "Ljava/util/LinkedList;") ∈ lw_all := lw_g (lw_at lw_m9 104 rfl) rfl
theorem q2161 : (Jvm.Cond.lays "java/util/LinkedList$ListItr" "java/util/LinkedList$ListItr" "lastReturned" "Ljava/util/LinkedList$Node;") ∈ lw_all := lw_g (lw_at lw_m9 105 rfl) rfl
theorem q2162 : (Jvm.Cond.soleField "java/util/LinkedList$ListItr" "lastReturned") ∈ lw_all := lw_g (lw_at lw_m9 106 rfl) rfl
theorem q2163 : (Jvm.Cond.lays "java/util/LinkedList$ListItr" "java/util/LinkedList$ListItr" "next" "Ljava/util/LinkedList$Node;") ∈ lw_all := lw_g (lw_at lw_m9 107 rfl) rfl
theorem q2164 : (Jvm.Cond.soleField "java/util/LinkedList$ListItr" "next") ∈ lw_all := lw_g (lw_at lw_m9 108 rfl) rfl
theorem q2165 : (Jvm.Cond.lays "java/util/LinkedList$ListItr" "java/util/LinkedList$ListItr" "nextIndex" "I") ∈ lw_all := lw_g (lw_at lw_m9 109 rfl) rfl
theorem q2166 : (Jvm.Cond.soleField "java/util/LinkedList$ListItr" "nextIndex") ∈ lw_all := lw_g (lw_at lw_m9 110 rfl) rfl
theorem q2167 : (Jvm.Cond.lays "java/util/LinkedList$ListItr" "java/util/LinkedList$ListItr" "expectedModCount" "I") ∈ lw_all := lw_g (lw_at lw_m9 111 rfl) rfl
theorem q2168 : (Jvm.Cond.soleField "java/util/LinkedList$ListItr" "expectedModCount") ∈ lw_all := lw_g (lw_at lw_m9 112 rfl) rfl
theorem q2169 : (Jvm.Cond.laysFinal "java/util/LinkedList$ListItr" "java/util/LinkedList$ListItr" "this$0" "Ljava/util/LinkedList;") ∈ lw_all := lw_g (lw_at lw_m9 113 rfl) rfl
theorem q2170 : (Jvm.Cond.soleField "java/util/LinkedList$ListItr" "this$0") ∈ lw_all := lw_g (lw_at lw_m9 114 rfl) rfl
theorem q2171 : (Jvm.Cond.superclass "java/util/LinkedList$ListItr" "java/lang/Object") ∈ lw_all := lw_g (lw_at lw_m9 115 rfl) rfl
theorem q2193 : (Jvm.Cond.castable "java/util/LinkedList$ListItr" "java/util/Iterator") ∈ lw_tbl := lw_at lw_m9 137 rfl
theorem q2194 : (Jvm.Cond.selects "java/util/LinkedList$ListItr" ({ cls := "java/util/Iterator", name := "hasNext", desc := "()Z" } : Jvm.MethodName) ({ cls := "java/util/LinkedList$ListItr", name := "hasNext", desc := "()Z" } : Jvm.MethodName)) ∈ lw_all := lw_g (lw_at lw_m9 138 rfl) rfl
theorem q2195 : (Jvm.Cond.unhidden "java/util/LinkedList$ListItr" "hasNext" "()Z") ∈ lw_tbl := lw_at lw_m9 139 rfl
theorem q2196 : (Jvm.Cond.instanceMethod ({ cls := "java/util/LinkedList$ListItr", name := "hasNext", desc := "()Z" } : Jvm.MethodName)) ∈ lw_all := lw_g (lw_at lw_m9 140 rfl) rfl
theorem q2197 : (Jvm.Cond.publicMethod ({ cls := "java/util/LinkedList$ListItr", name := "hasNext", desc := "()Z" } : Jvm.MethodName)) ∈ lw_tbl := lw_at lw_m9 141 rfl
theorem q2198 : (Jvm.Cond.code ({ cls := "java/util/LinkedList$ListItr", name := "hasNext", desc := "()Z" } : Jvm.MethodName) prog_65_method_2_code (1 : Nat) (Option.some Jvm.ClassFile.FieldType.boolean)) ∈ lw_all := lw_g (lw_at lw_m9 142 rfl) rfl
theorem q2290 : (Jvm.Cond.selects "java/util/LinkedList$ListItr" ({ cls := "java/util/Iterator", name := "next", desc := "()Ljava/lang/Object;" } : Jvm.MethodName) ({ cls := "java/util/LinkedList$ListItr", name := "next", desc := "()Ljava/lang/Object;" } : Jvm.MethodName)) ∈ lw_all := lw_g (lw_at lw_m9 234 rfl) rfl
theorem q2291 : (Jvm.Cond.unhidden "java/util/LinkedList$ListItr" "next" "()Ljava/lang/Object;") ∈ lw_tbl := lw_at lw_m9 235 rfl
theorem q2292 : (Jvm.Cond.instanceMethod ({ cls := "java/util/LinkedList$ListItr", name := "next", desc := "()Ljava/lang/Object;" } : Jvm.MethodName)) ∈ lw_all := lw_g (lw_at lw_m9 236 rfl) rfl
theorem q2293 : (Jvm.Cond.publicMethod ({ cls := "java/util/LinkedList$ListItr", name := "next", desc := "()Ljava/lang/Object;" } : Jvm.MethodName)) ∈ lw_tbl := lw_at lw_m9 237 rfl
theorem q2294 : (Jvm.Cond.code ({ cls := "java/util/LinkedList$ListItr", name := "next", desc := "()Ljava/lang/Object;" } : Jvm.MethodName) prog_65_method_3_code (1 : Nat) (Option.some (Jvm.ClassFile.FieldType.object "java/lang/Object"))) ∈ lw_all := lw_g (lw_at lw_m9 238 rfl) rfl
theorem q2295 : (Jvm.Cond.methodLink "java/util/LinkedList$ListItr" (36 : Nat) ({ cls := "java/util/LinkedList$ListItr", name := "checkForComodification", desc := "()V" } : Jvm.MethodName)) ∈ lw_all := lw_g (lw_at lw_m9 239 rfl) rfl
theorem q2296 : (Jvm.Cond.instanceMethod ({ cls := "java/util/LinkedList$ListItr", name := "checkForComodification", desc := "()V" } : Jvm.MethodName)) ∈ lw_all := lw_g (lw_at lw_m10 0 rfl) rfl
theorem q2297 : (Jvm.Cond.selects "java/util/LinkedList$ListItr" ({ cls := "java/util/LinkedList$ListItr", name := "checkForComodification", desc := "()V" } : Jvm.MethodName) ({ cls := "java/util/LinkedList$ListItr", name := "checkForComodification", desc := "()V" } : Jvm.MethodName)) ∈ lw_all := lw_g (lw_at lw_m10 1 rfl) rfl
theorem q2298 : (Jvm.Cond.code ({ cls := "java/util/LinkedList$ListItr", name := "checkForComodification", desc := "()V" } : Jvm.MethodName) prog_65_method_12_code (1 : Nat) (Option.none : Option Jvm.ClassFile.FieldType)) ∈ lw_all := lw_g (lw_at lw_m10 2 rfl) rfl
theorem q2299 : (Jvm.Cond.methodLink "java/util/LinkedList$ListItr" (39 : Nat) ({ cls := "java/util/LinkedList$ListItr", name := "hasNext", desc := "()Z" } : Jvm.MethodName)) ∈ lw_all := lw_g (lw_at lw_m10 3 rfl) rfl
theorem q3652 : (Jvm.Cond.selects "java/util/LinkedList$ListItr" ({ cls := "java/util/LinkedList$ListItr", name := "hasNext", desc := "()Z" } : Jvm.MethodName) ({ cls := "java/util/LinkedList$ListItr", name := "hasNext", desc := "()Z" } : Jvm.MethodName)) ∈ lw_all := lw_g (lw_at lw_m15 156 rfl) rfl
theorem q3687 : (Jvm.Cond.castable "java/util/LinkedList$ListItr" "java/lang/Object") ∈ lw_tbl := lw_at lw_m15 191 rfl
theorem q188 : (Jvm.Cond.initialized "java/util/NoSuchElementException") ∈ lw_all := lw_g (lw_at lw_m1 52 rfl) rfl
theorem q391 : (Jvm.Cond.selects "java/util/NoSuchElementException" ({ cls := "java/lang/Throwable", name := "fillInStackTrace", desc := "()Ljava/lang/Throwable;" } : Jvm.MethodName) ({ cls := "java/lang/Throwable", name := "fillInStackTrace", desc := "()Ljava/lang/Throwable;" } : Jvm.MethodName)) ∈ lw_all := lw_g (lw_at lw_m2 15 rfl) rfl
theorem q1170 : (Jvm.Cond.selects "java/util/NoSuchElementException" ({ cls := "java/lang/Object", name := "getClass", desc := "()Ljava/lang/Class;" } : Jvm.MethodName) ({ cls := "java/lang/Object", name := "getClass", desc := "()Ljava/lang/Class;" } : Jvm.MethodName)) ∈ lw_all := lw_g (lw_at lw_m5 74 rfl) rfl
theorem q2219 : (Jvm.Cond.instantiable "java/util/NoSuchElementException" (6 : Nat)) ∈ lw_all := lw_g (lw_at lw_m9 163 rfl) rfl
theorem q2220 : (Jvm.Cond.castable "java/util/NoSuchElementException" "java/util/NoSuchElementException") ∈ lw_tbl := lw_at lw_m9 164 rfl
theorem q2221 : (Jvm.Cond.selects "java/util/NoSuchElementException" ({ cls := "java/lang/Throwable", name := "fillInStackTrace", desc := "(I)Ljava/lang/Throwable;" } : Jvm.MethodName) ({ cls := "java/lang/Throwable", name := "fillInStackTrace", desc := "(I)Ljava/lang/Throwable;" } : Jvm.MethodName)) ∈ lw_all := lw_g (lw_at lw_m9 165 rfl) rfl
theorem q2222 : (Jvm.Cond.lays "java/util/NoSuchElementException" "java/lang/Throwable" "cause" "Ljava/lang/Throwable;") ∈ lw_all := lw_g (lw_at lw_m9 166 rfl) rfl
theorem q2223 : (Jvm.Cond.lays "java/util/NoSuchElementException" "java/lang/Throwable" "stackTrace" "[Ljava/lang/StackTraceElement;") ∈ lw_all := lw_g (lw_at lw_m9 167 rfl) rfl
theorem q2224 : (Jvm.Cond.lays "java/util/NoSuchElementException" "java/lang/Throwable" "suppressedExceptions" "Ljava/util/List;") ∈ lw_all := lw_g (lw_at lw_m9 168 rfl) rfl
theorem q2225 : (Jvm.Cond.lays "java/util/NoSuchElementException" "java/lang/Throwable" "detailMessage" "Ljava/lang/String;") ∈ lw_all := lw_g (lw_at lw_m9 169 rfl) rfl
theorem q2226 : (Jvm.Cond.lays "java/util/NoSuchElementException" "java/lang/Throwable" "backtrace" "Ljava/lang/Object;") ∈ lw_all := lw_g (lw_at lw_m9 170 rfl) rfl
theorem q2228 : (Jvm.Cond.instanceMethod ({ cls := "java/util/NoSuchElementException", name := "<init>", desc := "(Ljava/lang/Throwable;)V" } : Jvm.MethodName)) ∈ lw_all := lw_g (lw_at lw_m9 172 rfl) rfl
theorem q2229 : (Jvm.Cond.code ({ cls := "java/util/NoSuchElementException", name := "<init>", desc := "(Ljava/lang/Throwable;)V" } : Jvm.MethodName) prog_69_method_3_code (2 : Nat) (Option.none : Option Jvm.ClassFile.FieldType)) ∈ lw_all := lw_g (lw_at lw_m9 173 rfl) rfl
theorem q2230 : (Jvm.Cond.methodLink "java/util/NoSuchElementException" (10 : Nat) ({ cls := "java/lang/RuntimeException", name := "<init>", desc := "(Ljava/lang/Throwable;)V" } : Jvm.MethodName)) ∈ lw_all := lw_g (lw_at lw_m9 174 rfl) rfl
theorem q2248 : (Jvm.Cond.selects "java/util/NoSuchElementException" ({ cls := "java/lang/Throwable", name := "toString", desc := "()Ljava/lang/String;" } : Jvm.MethodName) ({ cls := "java/lang/Throwable", name := "toString", desc := "()Ljava/lang/String;" } : Jvm.MethodName)) ∈ lw_all := lw_g (lw_at lw_m9 192 rfl) rfl
theorem q2260 : (Jvm.Cond.selects "java/util/NoSuchElementException" ({ cls := "java/lang/Throwable", name := "getLocalizedMessage", desc := "()Ljava/lang/String;" } : Jvm.MethodName) ({ cls := "java/lang/Throwable", name := "getLocalizedMessage", desc := "()Ljava/lang/String;" } : Jvm.MethodName)) ∈ lw_all := lw_g (lw_at lw_m9 204 rfl) rfl
theorem q2271 : (Jvm.Cond.selects "java/util/NoSuchElementException" ({ cls := "java/lang/Throwable", name := "getMessage", desc := "()Ljava/lang/String;" } : Jvm.MethodName) ({ cls := "java/lang/Throwable", name := "getMessage", desc := "()Ljava/lang/String;" } : Jvm.MethodName)) ∈ lw_all := lw_g (lw_at lw_m9 215 rfl) rfl
theorem q2278 : (Jvm.Cond.lays "java/util/NoSuchElementException" "java/lang/Throwable" "depth" "I") ∈ lw_all := lw_g (lw_at lw_m9 222 rfl) rfl
theorem q2279 : (Jvm.Cond.superclass "java/util/NoSuchElementException" "java/lang/RuntimeException") ∈ lw_all := lw_g (lw_at lw_m9 223 rfl) rfl
theorem q3688 : (Jvm.Cond.castable "java/util/NoSuchElementException" "java/lang/Object") ∈ lw_tbl := lw_at lw_m15 192 rfl
theorem q190 : (Jvm.Cond.initialized "java/lang/StringIndexOutOfBoundsException") ∈ lw_all := lw_g (lw_at lw_m1 54 rfl) rfl
theorem q390 : (Jvm.Cond.selects "java/lang/StringIndexOutOfBoundsException" ({ cls := "java/lang/Throwable", name := "fillInStackTrace", desc := "()Ljava/lang/Throwable;" } : Jvm.MethodName) ({ cls := "java/lang/Throwable", name := "fillInStackTrace", desc := "()Ljava/lang/Throwable;" } : Jvm.MethodName)) ∈ lw_all := lw_g (lw_at lw_m2 14 rfl) rfl
theorem q1158 : (Jvm.Cond.selects "java/lang/StringIndexOutOfBoundsException" ({ cls := "java/lang/Object", name := "getClass", desc := "()Ljava/lang/Class;" } : Jvm.MethodName) ({ cls := "java/lang/Object", name := "getClass", desc := "()Ljava/lang/Class;" } : Jvm.MethodName)) ∈ lw_all := lw_g (lw_at lw_m5 62 rfl) rfl
theorem q1328 : (Jvm.Cond.selects "java/lang/StringIndexOutOfBoundsException" ({ cls := "java/lang/Object", name := "equals", desc := "(Ljava/lang/Object;)Z" } : Jvm.MethodName) ({ cls := "java/lang/Object", name := "equals", desc := "(Ljava/lang/Object;)Z" } : Jvm.MethodName)) ∈ lw_all := lw_g (lw_at lw_m5 232 rfl) rfl
theorem q2247 : (Jvm.Cond.selects "java/lang/StringIndexOutOfBoundsException" ({ cls := "java/lang/Throwable", name := "toString", desc := "()Ljava/lang/String;" } : Jvm.MethodName) ({ cls := "java/lang/Throwable", name := "toString", desc := "()Ljava/lang/String;" } : Jvm.MethodName)) ∈ lw_all := lw_g (lw_at lw_m9 191 rfl) rfl
theorem q2259 : (Jvm.Cond.selects "java/lang/StringIndexOutOfBoundsException" ({ cls := "java/lang/Throwable", name := "getLocalizedMessage", desc := "()Ljava/lang/String;" } : Jvm.MethodName) ({ cls := "java/lang/Throwable", name := "getLocalizedMessage", desc := "()Ljava/lang/String;" } : Jvm.MethodName)) ∈ lw_all := lw_g (lw_at lw_m9 203 rfl) rfl
theorem q2270 : (Jvm.Cond.selects "java/lang/StringIndexOutOfBoundsException" ({ cls := "java/lang/Throwable", name := "getMessage", desc := "()Ljava/lang/String;" } : Jvm.MethodName) ({ cls := "java/lang/Throwable", name := "getMessage", desc := "()Ljava/lang/String;" } : Jvm.MethodName)) ∈ lw_all := lw_g (lw_at lw_m9 214 rfl) rfl
theorem q2604 : (Jvm.Cond.instantiable "java/lang/StringIndexOutOfBoundsException" (6 : Nat)) ∈ lw_all := lw_g (lw_at lw_m11 68 rfl) rfl
theorem q2606 : (Jvm.Cond.instanceMethod ({ cls := "java/lang/StringIndexOutOfBoundsException", name := "<init>", desc := "(I)V" } : Jvm.MethodName)) ∈ lw_all := lw_g (lw_at lw_m11 70 rfl) rfl
theorem q2607 : (Jvm.Cond.code ({ cls := "java/lang/StringIndexOutOfBoundsException", name := "<init>", desc := "(I)V" } : Jvm.MethodName) prog_36_method_3_code (2 : Nat) (Option.none : Option Jvm.ClassFile.FieldType)) ∈ lw_all := lw_g (lw_at lw_m11 71 rfl) rfl
theorem q2608 : (Jvm.Cond.classLink "java/lang/StringIndexOutOfBoundsException" (10 : Nat) "java/lang/StringBuilder") ∈ lw_all := lw_g (lw_at lw_m11 72 rfl) rfl
theorem q2609 : (Jvm.Cond.methodLink "java/lang/StringIndexOutOfBoundsException" (12 : Nat) ({ cls := "java/lang/StringBuilder", name := "<init>", desc := "()V" } : Jvm.MethodName)) ∈ lw_all := lw_g (lw_at lw_m11 73 rfl) rfl
theorem q2610 : (Jvm.Cond.stringRef "java/lang/StringIndexOutOfBoundsException" (13 : Nat) "String index out of range: ") ∈ lw_tbl := lw_at lw_m11 74 rfl
theorem q2611 : (Jvm.Cond.methodLink "java/lang/StringIndexOutOfBoundsException" (15 : Nat) ({ cls := "java/lang/StringBuilder", name := "append", desc := "(Ljava/lang/String;)Ljava/lang/StringBuilder;" } : Jvm.MethodName)) ∈ lw_all := lw_g (lw_at lw_m11 75 rfl) rfl
theorem q2612 : (Jvm.Cond.methodLink "java/lang/StringIndexOutOfBoundsException" (19 : Nat) ({ cls := "java/lang/StringBuilder", name := "append", desc := "(I)Ljava/lang/StringBuilder;" } : Jvm.MethodName)) ∈ lw_all := lw_g (lw_at lw_m11 76 rfl) rfl
theorem q2613 : (Jvm.Cond.methodLink "java/lang/StringIndexOutOfBoundsException" (22 : Nat) ({ cls := "java/lang/StringBuilder", name := "toString", desc := "()Ljava/lang/String;" } : Jvm.MethodName)) ∈ lw_all := lw_g (lw_at lw_m11 77 rfl) rfl
theorem q2614 : (Jvm.Cond.methodLink "java/lang/StringIndexOutOfBoundsException" (7 : Nat) ({ cls := "java/lang/IndexOutOfBoundsException", name := "<init>", desc := "(Ljava/lang/String;)V" } : Jvm.MethodName)) ∈ lw_all := lw_g (lw_at lw_m11 78 rfl) rfl
theorem q2615 : (Jvm.Cond.lays "java/lang/StringIndexOutOfBoundsException" "java/lang/Throwable" "backtrace" "Ljava/lang/Object;") ∈ lw_all := lw_g (lw_at lw_m11 79 rfl) rfl
theorem q2616 : (Jvm.Cond.lays "java/lang/StringIndexOutOfBoundsException" "java/lang/Throwable" "detailMessage" "Ljava/lang/String;") ∈ lw_all := lw_g (lw_at lw_m11 80 rfl) rfl
theorem q2617 : (Jvm.Cond.lays "java/lang/StringIndexOutOfBoundsException" "java/lang/Throwable" "cause" "Ljava/lang/Throwable;") ∈ lw_all := lw_g (lw_at lw_m11 81 rfl) rfl
theorem q2618 : (Jvm.Cond.lays "java/lang/StringIndexOutOfBoundsException" "java/lang/Throwable" "stackTrace" "[Ljava/lang/StackTraceElement;") ∈ lw_all := lw_g (lw_at lw_m11 82 rfl) rfl
theorem q2619 : (Jvm.Cond.lays "java/lang/StringIndexOutOfBoundsException" "java/lang/Throwable" "depth" "I") ∈ lw_all := lw_g (lw_at lw_m11 83 rfl) rfl
theorem q2620 : (Jvm.Cond.lays "java/lang/StringIndexOutOfBoundsException" "java/lang/Throwable" "suppressedExceptions" "Ljava/util/List;") ∈ lw_all := lw_g (lw_at lw_m11 84 rfl) rfl
theorem q2621 : (Jvm.Cond.superclass "java/lang/StringIndexOutOfBoundsException" "java/lang/IndexOutOfBoundsException") ∈ lw_all := lw_g (lw_at lw_m11 85 rfl) rfl
theorem q3661 : (Jvm.Cond.castable "java/lang/StringIndexOutOfBoundsException" "java/lang/IndexOutOfBoundsException") ∈ lw_tbl := lw_at lw_m15 165 rfl
theorem q3691 : (Jvm.Cond.castable "java/lang/StringIndexOutOfBoundsException" "java/lang/Object") ∈ lw_tbl := lw_at lw_m15 195 rfl
theorem q197 : (Jvm.Cond.instanceMethod ({ cls := "java/lang/Object", name := "<init>", desc := "()V" } : Jvm.MethodName)) ∈ lw_all := lw_g (lw_at lw_m1 61 rfl) rfl
theorem q198 : (Jvm.Cond.code ({ cls := "java/lang/Object", name := "<init>", desc := "()V" } : Jvm.MethodName) object_method_1_code (1 : Nat) (Option.none : Option Jvm.ClassFile.FieldType)) ∈ lw_all := lw_g (lw_at lw_m1 62 rfl) rfl
theorem q546 : (Jvm.Cond.native ({ cls := "java/lang/Object", name := "clone", desc := "()Ljava/lang/Object;" } : Jvm.MethodName)) ∈ lw_all := lw_g (lw_at lw_m2 170 rfl) rfl
theorem q547 : (Jvm.Cond.instanceMethod ({ cls := "java/lang/Object", name := "clone", desc := "()Ljava/lang/Object;" } : Jvm.MethodName)) ∈ lw_all := lw_g (lw_at lw_m2 171 rfl) rfl
theorem q1139 : (Jvm.Cond.instanceMethod ({ cls := "java/lang/Object", name := "getClass", desc := "()Ljava/lang/Class;" } : Jvm.MethodName)) ∈ lw_all := lw_g (lw_at lw_m5 43 rfl) rfl
theorem q1140 : (Jvm.Cond.sameMethod "java/lang/Object" "java/lang/Object" "getClass" "()Ljava/lang/Class;") ∈ lw_all := lw_g (lw_at lw_m5 44 rfl) rfl
theorem q1171 : (Jvm.Cond.native ({ cls := "java/lang/Object", name := "getClass", desc := "()Ljava/lang/Class;" } : Jvm.MethodName)) ∈ lw_all := lw_g (lw_at lw_m5 75 rfl) rfl
theorem q1300 : (Jvm.Cond.declares ({ cls := "java/lang/Object", name := "equals", desc := "(Ljava/lang/Object;)Z" } : Jvm.MethodName)) ∈ lw_tbl := lw_at lw_m5 204 rfl
theorem q1302 : (Jvm.Cond.instanceMethod ({ cls := "java/lang/Object", name := "equals", desc := "(Ljava/lang/Object;)Z" } : Jvm.MethodName)) ∈ lw_all := lw_g (lw_at lw_m5 206 rfl) rfl
theorem q1303 : (Jvm.Cond.sameMethod "java/lang/Object" "java/lang/Object" "equals" "(Ljava/lang/Object;)Z") ∈ lw_all := lw_g (lw_at lw_m5 207 rfl) rfl
theorem q1330 : (Jvm.Cond.code ({ cls := "java/lang/Object", name := "equals", desc := "(Ljava/lang/Object;)Z" } : Jvm.MethodName) object_method_4_code (2 : Nat) (Option.some Jvm.ClassFile.FieldType.boolean)) ∈ lw_all := lw_g (lw_at lw_m5 234 rfl) rfl
theorem q3659 : (Jvm.Cond.initialized "java/lang/Object") ∈ lw_all := lw_g (lw_at lw_m15 163 rfl) rfl
theorem q3695 : (Jvm.Cond.declares ({ cls := "java/lang/Object", name := "getClass", desc := "()Ljava/lang/Class;" } : Jvm.MethodName)) ∈ lw_tbl := lw_at lw_m15 199 rfl
theorem q3715 : (Jvm.Cond.instantiable "java/lang/Object" (0 : Nat)) ∈ lw_all := lw_g (lw_at lw_m15 219 rfl) rfl
theorem q1035 : (Jvm.Cond.castable "java/lang/System$2" "jdk/internal/access/JavaLangAccess") ∈ lw_tbl := lw_at lw_m4 179 rfl
theorem q1036 : (Jvm.Cond.selects "java/lang/System$2" ({ cls := "jdk/internal/access/JavaLangAccess", name := "getUTF16Char", desc := "([BI)C" } : Jvm.MethodName) ({ cls := "java/lang/System$2", name := "getUTF16Char", desc := "([BI)C" } : Jvm.MethodName)) ∈ lw_all := lw_g (lw_at lw_m4 180 rfl) rfl
theorem q1037 : (Jvm.Cond.unhidden "java/lang/System$2" "getUTF16Char" "([BI)C") ∈ lw_tbl := lw_at lw_m4 181 rfl
theorem q1038 : (Jvm.Cond.instanceMethod ({ cls := "java/lang/System$2", name := "getUTF16Char", desc := "([BI)C" } : Jvm.MethodName)) ∈ lw_all := lw_g (lw_at lw_m4 182 rfl) rfl
theorem q1039 : (Jvm.Cond.publicMethod ({ cls := "java/lang/System$2", name := "getUTF16Char", desc := "([BI)C" } : Jvm.MethodName)) ∈ lw_tbl := lw_at lw_m4 183 rfl
theorem q1040 : (Jvm.Cond.code ({ cls := "java/lang/System$2", name := "getUTF16Char", desc := "([BI)C" } : Jvm.MethodName) prog_40_method_45_code (3 : Nat) (Option.some Jvm.ClassFile.FieldType.char)) ∈ lw_all := lw_g (lw_at lw_m4 184 rfl) rfl
theorem q1041 : (Jvm.Cond.methodLink "java/lang/System$2" (185 : Nat) ({ cls := "java/lang/StringUTF16", name := "getChar", desc := "([BI)C" } : Jvm.MethodName)) ∈ lw_all := lw_g (lw_at lw_m4 185 rfl) rfl
theorem q1159 : (Jvm.Cond.selects "java/lang/System$2" ({ cls := "java/lang/Object", name := "getClass", desc := "()Ljava/lang/Class;" } : Jvm.MethodName) ({ cls := "java/lang/Object", name := "getClass", desc := "()Ljava/lang/Class;" } : Jvm.MethodName)) ∈ lw_all := lw_g (lw_at lw_m5 63 rfl) rfl
theorem q1329 : (Jvm.Cond.selects "java/lang/System$2" ({ cls := "java/lang/Object", name := "equals", desc := "(Ljava/lang/Object;)Z" } : Jvm.MethodName) ({ cls := "java/lang/Object", name := "equals", desc := "(Ljava/lang/Object;)Z" } : Jvm.MethodName)) ∈ lw_all := lw_g (lw_at lw_m5 233 rfl) rfl
theorem q3677 : (Jvm.Cond.castable "java/lang/System$2" "java/lang/Object") ∈ lw_tbl := lw_at lw_m15 181 rfl
theorem q2039 : (Jvm.Cond.interfaceMethod "AcousticCamera$Choice" "AcousticCamera$Choice" "takes" "(I)Z") ∈ lw_tbl := lw_at lw_m8 223 rfl
theorem q2040 : (Jvm.Cond.declares ({ cls := "AcousticCamera$Choice", name := "takes", desc := "(I)Z" } : Jvm.MethodName)) ∈ lw_tbl := lw_at lw_m8 224 rfl
theorem q2005 : (Jvm.Cond.interfaceMethod "AcousticCamera$Score" "AcousticCamera$Score" "of" "(I)J") ∈ lw_tbl := lw_at lw_m8 189 rfl
theorem q2006 : (Jvm.Cond.declares ({ cls := "AcousticCamera$Score", name := "of", desc := "(I)J" } : Jvm.MethodName)) ∈ lw_tbl := lw_at lw_m8 190 rfl
theorem q1762 : (Jvm.Cond.interfaceMethod "AcousticCamera$Wave" "AcousticCamera$Wave" "at" "(I)I") ∈ lw_tbl := lw_at lw_m7 186 rfl
theorem q1763 : (Jvm.Cond.declares ({ cls := "AcousticCamera$Wave", name := "at", desc := "(I)I" } : Jvm.MethodName)) ∈ lw_tbl := lw_at lw_m7 187 rfl
theorem q545 : (Jvm.Cond.sameMethod "[B" "java/lang/Object" "clone" "()Ljava/lang/Object;") ∈ lw_all := lw_g (lw_at lw_m2 169 rfl) rfl
theorem q548 : (Jvm.Cond.selects "[B" ({ cls := "[B", name := "clone", desc := "()Ljava/lang/Object;" } : Jvm.MethodName) ({ cls := "java/lang/Object", name := "clone", desc := "()Ljava/lang/Object;" } : Jvm.MethodName)) ∈ lw_all := lw_g (lw_at lw_m2 172 rfl) rfl
theorem q549 : (Jvm.Cond.castable "[B" "java/lang/Cloneable") ∈ lw_tbl := lw_at lw_m2 173 rfl
theorem q3697 : (Jvm.Cond.castable "[B" "java/lang/Object") ∈ lw_tbl := lw_at lw_m15 201 rfl
theorem q3705 : (Jvm.Cond.castable "[D" "java/lang/Object") ∈ lw_tbl := lw_at lw_m15 209 rfl
theorem q2723 : (Jvm.Cond.sameMethod "[I" "java/lang/Object" "clone" "()Ljava/lang/Object;") ∈ lw_all := lw_g (lw_at lw_m11 187 rfl) rfl
theorem q2724 : (Jvm.Cond.selects "[I" ({ cls := "[I", name := "clone", desc := "()Ljava/lang/Object;" } : Jvm.MethodName) ({ cls := "java/lang/Object", name := "clone", desc := "()Ljava/lang/Object;" } : Jvm.MethodName)) ∈ lw_all := lw_g (lw_at lw_m11 188 rfl) rfl
theorem q2725 : (Jvm.Cond.castable "[I" "java/lang/Cloneable") ∈ lw_tbl := lw_at lw_m11 189 rfl
theorem q3699 : (Jvm.Cond.castable "[I" "java/lang/Object") ∈ lw_tbl := lw_at lw_m15 203 rfl
theorem q1489 : (Jvm.Cond.sameMethod "[J" "java/lang/Object" "clone" "()Ljava/lang/Object;") ∈ lw_all := lw_g (lw_at lw_m6 153 rfl) rfl
theorem q1490 : (Jvm.Cond.selects "[J" ({ cls := "[J", name := "clone", desc := "()Ljava/lang/Object;" } : Jvm.MethodName) ({ cls := "java/lang/Object", name := "clone", desc := "()Ljava/lang/Object;" } : Jvm.MethodName)) ∈ lw_all := lw_g (lw_at lw_m6 154 rfl) rfl
theorem q1491 : (Jvm.Cond.castable "[J" "java/lang/Cloneable") ∈ lw_tbl := lw_at lw_m6 155 rfl
theorem q3700 : (Jvm.Cond.castable "[J" "java/lang/Object") ∈ lw_tbl := lw_at lw_m15 204 rfl
theorem q3702 : (Jvm.Cond.castable "[LAcousticCamera$Source;" "java/lang/Object") ∈ lw_tbl := lw_at lw_m15 206 rfl
theorem q3698 : (Jvm.Cond.castable "[LAcousticCamera$State;" "java/lang/Object") ∈ lw_tbl := lw_at lw_m15 202 rfl
theorem q3693 : (Jvm.Cond.sameMethod "[Ljava/lang/Object;" "java/lang/Object" "getClass" "()Ljava/lang/Class;") ∈ lw_all := lw_g (lw_at lw_m15 197 rfl) rfl
theorem q3694 : (Jvm.Cond.selects "[Ljava/lang/Object;" ({ cls := "java/lang/Object", name := "getClass", desc := "()Ljava/lang/Class;" } : Jvm.MethodName) ({ cls := "java/lang/Object", name := "getClass", desc := "()Ljava/lang/Class;" } : Jvm.MethodName)) ∈ lw_all := lw_g (lw_at lw_m15 198 rfl) rfl
theorem q3696 : (Jvm.Cond.castable "[Ljava/lang/Object;" "java/lang/Object") ∈ lw_tbl := lw_at lw_m15 200 rfl
theorem q3704 : (Jvm.Cond.castable "[Z" "java/lang/Object") ∈ lw_tbl := lw_at lw_m15 208 rfl
theorem q3701 : (Jvm.Cond.castable "[[I" "java/lang/Object") ∈ lw_tbl := lw_at lw_m15 205 rfl
theorem q3703 : (Jvm.Cond.castable "[[J" "java/lang/Object") ∈ lw_tbl := lw_at lw_m15 207 rfl
theorem q189 : (Jvm.Cond.initialized "java/lang/Integer$IntegerCache") ∈ lw_all := lw_g (lw_at lw_m1 53 rfl) rfl
theorem q2306 : (Jvm.Cond.laysStatic "java/lang/Integer$IntegerCache" "high" "I") ∈ lw_tbl := lw_at lw_m10 10 rfl
theorem q2308 : (Jvm.Cond.laysStatic "java/lang/Integer$IntegerCache" "cache" "[Ljava/lang/Integer;") ∈ lw_tbl := lw_at lw_m10 12 rfl
theorem q159 : (Jvm.Cond.initialized "java/lang/System") ∈ lw_all := lw_g (lw_at lw_m1 23 rfl) rfl
theorem q555 : (Jvm.Cond.static ({ cls := "java/lang/System", name := "arraycopy", desc := "(Ljava/lang/Object;ILjava/lang/Object;II)V" } : Jvm.MethodName)) ∈ lw_all := lw_g (lw_at lw_m2 179 rfl) rfl
theorem q556 : (Jvm.Cond.native ({ cls := "java/lang/System", name := "arraycopy", desc := "(Ljava/lang/Object;ILjava/lang/Object;II)V" } : Jvm.MethodName)) ∈ lw_all := lw_g (lw_at lw_m2 180 rfl) rfl
theorem q184 : (Jvm.Cond.initialized "java/util/AbstractList$ListItr") ∈ lw_all := lw_g (lw_at lw_m1 48 rfl) rfl
theorem q1160 : (Jvm.Cond.selects "java/util/AbstractList$ListItr" ({ cls := "java/lang/Object", name := "getClass", desc := "()Ljava/lang/Class;" } : Jvm.MethodName) ({ cls := "java/lang/Object", name := "getClass", desc := "()Ljava/lang/Class;" } : Jvm.MethodName)) ∈ lw_all := lw_g (lw_at lw_m5 64 rfl) rfl
theorem q2177 : (Jvm.Cond.castable "java/util/AbstractList$ListItr" "java/util/Iterator") ∈ lw_tbl := lw_at lw_m9 121 rfl
theorem q2178 : (Jvm.Cond.selects "java/util/AbstractList$ListItr" ({ cls := "java/util/Iterator", name := "hasNext", desc := "()Z" } : Jvm.MethodName) ({ cls := "java/util/AbstractList$Itr", name := "hasNext", desc := "()Z" } : Jvm.MethodName)) ∈ lw_all := lw_g (lw_at lw_m9 122 rfl) rfl
theorem q2179 : (Jvm.Cond.unhidden "java/util/AbstractList$ListItr" "hasNext" "()Z") ∈ lw_tbl := lw_at lw_m9 123 rfl
theorem q2203 : (Jvm.Cond.selects "java/util/AbstractList$ListItr" ({ cls := "java/util/Iterator", name := "next", desc := "()Ljava/lang/Object;" } : Jvm.MethodName) ({ cls := "java/util/AbstractList$Itr", name := "next", desc := "()Ljava/lang/Object;" } : Jvm.MethodName)) ∈ lw_all := lw_g (lw_at lw_m9 147 rfl) rfl
theorem q2204 : (Jvm.Cond.unhidden "java/util/AbstractList$ListItr" "next" "()Ljava/lang/Object;") ∈ lw_tbl := lw_at lw_m9 148 rfl
theorem q2211 : (Jvm.Cond.selects "java/util/AbstractList$ListItr" ({ cls := "java/util/AbstractList$Itr", name := "checkForComodification", desc := "()V" } : Jvm.MethodName) ({ cls := "java/util/AbstractList$Itr", name := "checkForComodification", desc := "()V" } : Jvm.MethodName)) ∈ lw_all := lw_g (lw_at lw_m9 155 rfl) rfl
theorem q3685 : (Jvm.Cond.castable "java/util/AbstractList$ListItr" "java/lang/Object") ∈ lw_tbl := lw_at lw_m15 189 rfl
theorem q3708 : (Jvm.Cond.fieldLink "java/util/AbstractList$ListItr" (1 : Nat) "java/util/AbstractList$ListItr" "this$0" "Ljava/util/AbstractList;") ∈ lw_all := lw_g (lw_at lw_m15 212 rfl) rfl
theorem q3713 : (Jvm.Cond.fieldLink "java/util/AbstractList$ListItr" (13 : Nat) "java/util/AbstractList$ListItr" "cursor" "I") ∈ lw_all := lw_g (lw_at lw_m15 217 rfl) rfl
theorem q3714 : (Jvm.Cond.sameField "java/util/AbstractList$ListItr" "java/util/AbstractList$Itr" "cursor" "I") ∈ lw_all := lw_g (lw_at lw_m15 218 rfl) rfl
theorem q2175 : (Jvm.Cond.interfaceMethod "java/util/Iterator" "java/util/Iterator" "hasNext" "()Z") ∈ lw_tbl := lw_at lw_m9 119 rfl
theorem q2176 : (Jvm.Cond.declares ({ cls := "java/util/Iterator", name := "hasNext", desc := "()Z" } : Jvm.MethodName)) ∈ lw_tbl := lw_at lw_m9 120 rfl
theorem q2201 : (Jvm.Cond.interfaceMethod "java/util/Iterator" "java/util/Iterator" "next" "()Ljava/lang/Object;") ∈ lw_tbl := lw_at lw_m9 145 rfl
theorem q2202 : (Jvm.Cond.declares ({ cls := "java/util/Iterator", name := "next", desc := "()Ljava/lang/Object;" } : Jvm.MethodName)) ∈ lw_tbl := lw_at lw_m9 146 rfl
theorem q1033 : (Jvm.Cond.interfaceMethod "jdk/internal/access/JavaLangAccess" "jdk/internal/access/JavaLangAccess" "getUTF16Char" "([BI)C") ∈ lw_tbl := lw_at lw_m4 177 rfl
theorem q1034 : (Jvm.Cond.declares ({ cls := "jdk/internal/access/JavaLangAccess", name := "getUTF16Char", desc := "([BI)C" } : Jvm.MethodName)) ∈ lw_tbl := lw_at lw_m4 178 rfl
theorem q209 : (Jvm.Cond.arrayOver (Jvm.ClassFile.FieldType.object "java/lang/Object")) ∈ lw_tbl := lw_at lw_m1 73 rfl
theorem q220 : (Jvm.Cond.arrayClass Jvm.ClassFile.FieldType.byte) ∈ lw_all := lw_g (lw_at lw_m1 84 rfl) rfl
theorem q222 : (Jvm.Cond.arrayOver (Jvm.ClassFile.FieldType.object "AcousticCamera$State")) ∈ lw_tbl := lw_at lw_m1 86 rfl
theorem q284 : (Jvm.Cond.arrayClass Jvm.ClassFile.FieldType.int) ∈ lw_all := lw_g (lw_at lw_m1 148 rfl) rfl
theorem q769 : (Jvm.Cond.arrayClass Jvm.ClassFile.FieldType.long) ∈ lw_all := lw_g (lw_at lw_m3 153 rfl) rfl
theorem q771 : (Jvm.Cond.arrayOver (Jvm.ClassFile.FieldType.array Jvm.ClassFile.FieldType.int)) ∈ lw_tbl := lw_at lw_m3 155 rfl
theorem q1662 : (Jvm.Cond.arrayOver (Jvm.ClassFile.FieldType.object "AcousticCamera$Source")) ∈ lw_tbl := lw_at lw_m7 86 rfl
theorem q2496 : (Jvm.Cond.arrayOver (Jvm.ClassFile.FieldType.array Jvm.ClassFile.FieldType.long)) ∈ lw_tbl := lw_at lw_m10 200 rfl
theorem q3002 : (Jvm.Cond.arrayClass Jvm.ClassFile.FieldType.boolean) ∈ lw_all := lw_g (lw_at lw_m12 226 rfl) rfl
theorem q3641 : (Jvm.Cond.arrayClass Jvm.ClassFile.FieldType.double) ∈ lw_all := lw_g (lw_at lw_m15 145 rfl) rfl
theorem q3706 : (Jvm.Cond.arrayClass Jvm.ClassFile.FieldType.char) ∈ lw_all := lw_g (lw_at lw_m15 210 rfl) rfl
theorem q3707 : (Jvm.Cond.arrayClass Jvm.ClassFile.FieldType.short) ∈ lw_all := lw_g (lw_at lw_m15 211 rfl) rfl
theorem in_X1 : ∀ w ∈ wsX10, w ∈ lw_all := lw_in wsX10 [263, 265, 267, 269, 271, 273, 275, 277] (by decide +kernel) (by decide +kernel)
theorem in_X2 : ∀ w ∈ wsX20, w ∈ lw_all := lw_in wsX20 [2941, 2943, 2945, 2947, 2949, 2951, 2953, 2955, 2957, 2959, 2961, 2963, 2965, 2967, 2969, 2971, 2973, 2975, 2977, 2979, 2981, 2983, 2985, 2987, 2989, 2991, 2993, 2995, 2997, 2999] (by decide +kernel) (by decide +kernel)
theorem in_X3 : ∀ w ∈ wsX30, w ∈ lw_all := lw_in wsX30 [1703, 1705, 1707, 1709, 1711, 1713, 1715, 1717] (by decide +kernel) (by decide +kernel)
theorem in_X4 : ∀ w ∈ wsX40, w ∈ lw_all := lw_in wsX40 [872, 874, 876, 878, 880, 882, 884] (by decide +kernel) (by decide +kernel)
theorem in_X5 : ∀ w ∈ wsX50, w ∈ lw_all := lw_in wsX50 [826, 828, 830, 832, 834, 836, 838, 840, 842, 844, 846, 848, 850, 852, 854, 856, 858, 860, 862] (by decide +kernel) (by decide +kernel)
theorem in_X6 : ∀ w ∈ wsX60, w ∈ lw_all := lw_in wsX60 [964, 965, 966, 967, 968, 986, 982, 984] (by decide +kernel) (by decide +kernel)
theorem in_X7 : ∀ w ∈ wsX70, w ∈ lw_all := lw_in wsX70 [1104, 1106, 1108] (by decide +kernel) (by decide +kernel)
theorem in_X8 : ∀ w ∈ wsX80, w ∈ lw_all := lw_in wsX80 [1409, 1411, 1413, 1415, 1417, 1419] (by decide +kernel) (by decide +kernel)
theorem in_X10 : ∀ w ∈ wsX100, w ∈ lw_all := lw_in wsX100 [1432, 1434] (by decide +kernel) (by decide +kernel)
theorem in_X11 : ∀ w ∈ wsX110, w ∈ lw_all := lw_in wsX110 [1507, 1509, 1511, 1513] (by decide +kernel) (by decide +kernel)
theorem in_J1 : ∀ w ∈ wsJ10, w ∈ lw_all := lw_in wsJ10 [213, 215, 217] (by decide +kernel) (by decide +kernel)
theorem in_J3 : ∀ w ∈ wsJ30, w ∈ lw_all := lw_in wsJ30 [246, 248, 250, 252] (by decide +kernel) (by decide +kernel)
theorem in_J4 : ∀ w ∈ wsJ40, w ∈ lw_all := lw_in wsJ40 [436, 438, 721, 723] (by decide +kernel) (by decide +kernel)
theorem in_J6 : ∀ w ∈ wsJ60, w ∈ lw_all := lw_in wsJ60 [426, 427, 428, 429, 430] (by decide +kernel) (by decide +kernel)
theorem in_J9 : ∀ w ∈ wsJ90, w ∈ lw_all := lw_in wsJ90 [456, 457, 458, 459, 460, 471] (by decide +kernel) (by decide +kernel)
theorem in_J10 : ∀ w ∈ wsJ100, w ∈ lw_all := lw_in wsJ100 [403, 405, 407, 409, 411, 413] (by decide +kernel) (by decide +kernel)
theorem in_J12 : ∀ w ∈ wsJ120, w ∈ lw_all := lw_in wsJ120 [743, 739, 741] (by decide +kernel) (by decide +kernel)
theorem in_J13 : ∀ w ∈ wsJ130, w ∈ lw_all := lw_in wsJ130 [503, 504, 505, 506, 507, 702] (by decide +kernel) (by decide +kernel)
theorem in_J20 : ∀ w ∈ wsJ200, w ∈ lw_all := lw_in wsJ200 [2318] (by decide +kernel) (by decide +kernel)
theorem in_J21 : ∀ w ∈ wsJ210, w ∈ lw_all := lw_in wsJ210 [762, 764, 766] (by decide +kernel) (by decide +kernel)
theorem in_J23 : ∀ w ∈ wsJ230, w ∈ lw_all := lw_in wsJ230 [1208, 1210, 1212] (by decide +kernel) (by decide +kernel)
theorem in_J28 : ∀ w ∈ wsJ280, w ∈ lw_all := lw_in wsJ280 [1262, 1264] (by decide +kernel) (by decide +kernel)
theorem in_J29 : ∀ w ∈ wsJ290, w ∈ lw_all := lw_in wsJ290 [1278, 1280] (by decide +kernel) (by decide +kernel)
theorem in_J31 : ∀ w ∈ wsJ310, w ∈ lw_all := lw_in wsJ310 [1808, 1809, 1810, 1811, 1812, 1817] (by decide +kernel) (by decide +kernel)
theorem in_J33 : ∀ w ∈ wsJ330, w ∈ lw_all := lw_in wsJ330 [2079, 2073, 2075, 2077] (by decide +kernel) (by decide +kernel)
theorem in_J36 : ∀ w ∈ wsJ360, w ∈ lw_all := lw_in wsJ360 [2129, 2131, 2133, 2135, 2127] (by decide +kernel) (by decide +kernel)
theorem in_J37 : ∀ w ∈ wsJ370, w ∈ lw_all := lw_in wsJ370 [2161, 2163, 2165, 2167, 2169] (by decide +kernel) (by decide +kernel)
theorem in_J38 : ∀ w ∈ wsJ380, w ∈ lw_all := lw_in wsJ380 [2222, 2223, 2224, 2225, 2226, 2278] (by decide +kernel) (by decide +kernel)
theorem in_J39 : ∀ w ∈ wsJ390, w ∈ lw_all := lw_in wsJ390 [2615, 2616, 2617, 2618, 2619, 2620] (by decide +kernel) (by decide +kernel)
