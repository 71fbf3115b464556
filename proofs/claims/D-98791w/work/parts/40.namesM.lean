set_option maxRecDepth 100000
abbrev cX10_thrown : ByteArray := prog_19_method_1_code
def yX10_thrown : MethodName := ⟨RX10, "thrown", "()I"⟩
theorem dX10_thrown_0 : decode cX10_thrown 0 = .ok (.aload_n 0, 1) := by decide +kernel
theorem dX10_thrown_1 : decode cX10_thrown 1 = .ok (.getfield 3, 3) := by decide +kernel
theorem dX10_thrown_4 : decode cX10_thrown 4 = .ok (.ireturn, 1) := by decide +kernel
abbrev cX10_init : ByteArray := prog_19_method_4_code
def yX10_init : MethodName := ⟨RX10, "<init>", "()V"⟩
def dkwX10_init_15 : List UInt8 := [182, 0, 144, 42, 182, 0, 147, 177]
abbrev dktX10_init_15 : List UInt8 := dkwX10_init_15 ++ []
def dkwX10_init_14 : List UInt8 := [188, 10, 181, 0, 135, 42, 17, 1, 244, 188, 10, 181, 0, 138, 42, 17, 6, 42, 188, 10, 181, 0, 141, 42]
abbrev dktX10_init_14 : List UInt8 := dkwX10_init_14 ++ dktX10_init_15
def dkwX10_init_13 : List UInt8 := [181, 0, 126, 42, 16, 10, 188, 10, 181, 0, 129, 42, 16, 10, 188, 10, 181, 0, 132, 42, 17, 12, 128]
abbrev dktX10_init_13 : List UInt8 := dkwX10_init_13 ++ dktX10_init_14
def dkwX10_init_12 : List UInt8 := [181, 0, 117, 42, 16, 12, 188, 10, 181, 0, 120, 42, 16, 12, 188, 10, 181, 0, 123, 42, 16, 24, 188, 10]
abbrev dktX10_init_12 : List UInt8 := dkwX10_init_12 ++ dktX10_init_13
def dkwX10_init_11 : List UInt8 := [181, 0, 108, 42, 16, 12, 188, 10, 181, 0, 111, 42, 7, 188, 10, 181, 0, 114, 42, 7, 188, 10]
abbrev dktX10_init_11 : List UInt8 := dkwX10_init_11 ++ dktX10_init_12
def dkwX10_init_10 : List UInt8 := [181, 0, 99, 42, 16, 12, 188, 10, 181, 0, 102, 42, 16, 12, 188, 10, 181, 0, 105, 42, 7, 188, 10]
abbrev dktX10_init_10 : List UInt8 := dkwX10_init_10 ++ dktX10_init_11
def dkwX10_init_9 : List UInt8 := [188, 10, 181, 0, 90, 42, 16, 24, 188, 10, 181, 0, 93, 42, 6, 188, 10, 181, 0, 96, 42, 6, 188, 10]
abbrev dktX10_init_9 : List UInt8 := dkwX10_init_9 ++ dktX10_init_10
def dkwX10_init_8 : List UInt8 := [181, 0, 81, 42, 17, 0, 150, 188, 10, 181, 0, 84, 42, 16, 6, 188, 10, 181, 0, 87, 42, 16, 24]
abbrev dktX10_init_8 : List UInt8 := dkwX10_init_8 ++ dktX10_init_9
def dkwX10_init_7 : List UInt8 := [17, 0, 150, 188, 10, 181, 0, 75, 42, 17, 0, 150, 188, 10, 181, 0, 78, 42, 17, 0, 150, 188, 10]
abbrev dktX10_init_7 : List UInt8 := dkwX10_init_7 ++ dktX10_init_8
def dkwX10_init_6 : List UInt8 := [188, 10, 181, 0, 66, 42, 8, 188, 10, 181, 0, 69, 42, 17, 0, 150, 188, 10, 181, 0, 72, 42]
abbrev dktX10_init_6 : List UInt8 := dkwX10_init_6 ++ dktX10_init_7
def dkwX10_init_5 : List UInt8 := [181, 0, 56, 42, 17, 0, 241, 188, 4, 181, 0, 59, 42, 17, 0, 241, 188, 4, 181, 0, 63, 42, 8]
abbrev dktX10_init_5 : List UInt8 := dkwX10_init_5 ++ dktX10_init_6
def dkwX10_init_4 : List UInt8 := [181, 0, 47, 42, 16, 6, 188, 10, 181, 0, 50, 42, 16, 8, 188, 10, 181, 0, 53, 42, 16, 16, 188, 10]
abbrev dktX10_init_4 : List UInt8 := dkwX10_init_4 ++ dktX10_init_5
def dkwX10_init_3 : List UInt8 := [181, 0, 38, 42, 7, 188, 10, 181, 0, 41, 42, 16, 60, 188, 10, 181, 0, 44, 42, 16, 60, 188, 10]
abbrev dktX10_init_3 : List UInt8 := dkwX10_init_3 ++ dktX10_init_4
def dkwX10_init_2 : List UInt8 := [181, 0, 29, 42, 16, 6, 188, 10, 181, 0, 32, 42, 16, 8, 188, 10, 181, 0, 35, 42, 16, 16, 188, 10]
abbrev dktX10_init_2 : List UInt8 := dkwX10_init_2 ++ dktX10_init_3
def dkwX10_init_1 : List UInt8 := [181, 0, 20, 42, 7, 188, 10, 181, 0, 23, 42, 16, 60, 188, 10, 181, 0, 26, 42, 16, 60, 188, 10]
abbrev dktX10_init_1 : List UInt8 := dkwX10_init_1 ++ dktX10_init_2
def dkwX10_init_0 : List UInt8 := [42, 183, 0, 11, 42, 6, 188, 10, 181, 0, 7, 42, 2, 181, 0, 17, 42, 17, 2, 88, 188, 10]
abbrev dktX10_init_0 : List UInt8 := dkwX10_init_0 ++ dktX10_init_1
theorem dksX10_init_0 : cX10_init.data.toList.drop 0 = dktX10_init_0 := by decide +kernel
theorem dksX10_init_1 : cX10_init.data.toList.drop 22 = dktX10_init_1 := dk_seg dksX10_init_0 22 rfl rfl
theorem dksX10_init_2 : cX10_init.data.toList.drop 45 = dktX10_init_2 := dk_seg dksX10_init_1 23 rfl rfl
theorem dksX10_init_3 : cX10_init.data.toList.drop 69 = dktX10_init_3 := dk_seg dksX10_init_2 24 rfl rfl
theorem dksX10_init_4 : cX10_init.data.toList.drop 92 = dktX10_init_4 := dk_seg dksX10_init_3 23 rfl rfl
theorem dksX10_init_5 : cX10_init.data.toList.drop 116 = dktX10_init_5 := dk_seg dksX10_init_4 24 rfl rfl
theorem dksX10_init_6 : cX10_init.data.toList.drop 139 = dktX10_init_6 := dk_seg dksX10_init_5 23 rfl rfl
theorem dksX10_init_7 : cX10_init.data.toList.drop 161 = dktX10_init_7 := dk_seg dksX10_init_6 22 rfl rfl
theorem dksX10_init_8 : cX10_init.data.toList.drop 184 = dktX10_init_8 := dk_seg dksX10_init_7 23 rfl rfl
theorem dksX10_init_9 : cX10_init.data.toList.drop 207 = dktX10_init_9 := dk_seg dksX10_init_8 23 rfl rfl
theorem dksX10_init_10 : cX10_init.data.toList.drop 231 = dktX10_init_10 := dk_seg dksX10_init_9 24 rfl rfl
theorem dksX10_init_11 : cX10_init.data.toList.drop 254 = dktX10_init_11 := dk_seg dksX10_init_10 23 rfl rfl
theorem dksX10_init_12 : cX10_init.data.toList.drop 276 = dktX10_init_12 := dk_seg dksX10_init_11 22 rfl rfl
theorem dksX10_init_13 : cX10_init.data.toList.drop 300 = dktX10_init_13 := dk_seg dksX10_init_12 24 rfl rfl
theorem dksX10_init_14 : cX10_init.data.toList.drop 323 = dktX10_init_14 := dk_seg dksX10_init_13 23 rfl rfl
theorem dksX10_init_15 : cX10_init.data.toList.drop 347 = dktX10_init_15 := dk_seg dksX10_init_14 24 rfl rfl
theorem dX10_init_0 : decode cX10_init 0 = .ok (.aload_n 0, 1) := dk_42 (dk_at dksX10_init_0 0 rfl rfl)
theorem dX10_init_1 : decode cX10_init 1 = .ok (.invokespecial 11, 3) := dk_183 0 11 (dk_at dksX10_init_0 1 rfl rfl)
theorem dX10_init_4 : decode cX10_init 4 = .ok (.aload_n 0, 1) := dk_42 (dk_at dksX10_init_0 4 rfl rfl)
theorem dX10_init_5 : decode cX10_init 5 = .ok (.iconst 3, 1) := dk_6 (dk_at dksX10_init_0 5 rfl rfl)
theorem dX10_init_6 : decode cX10_init 6 = .ok (.newarray .int, 2) := dk_188_10 (dk_at dksX10_init_0 6 rfl rfl)
theorem dX10_init_8 : decode cX10_init 8 = .ok (.putfield 7, 3) := dk_181 0 7 (dk_at dksX10_init_0 8 rfl rfl)
theorem dX10_init_11 : decode cX10_init 11 = .ok (.aload_n 0, 1) := dk_42 (dk_at dksX10_init_0 11 rfl rfl)
theorem dX10_init_12 : decode cX10_init 12 = .ok (.iconst (-1), 1) := dk_2 (dk_at dksX10_init_0 12 rfl rfl)
theorem dX10_init_13 : decode cX10_init 13 = .ok (.putfield 17, 3) := dk_181 0 17 (dk_at dksX10_init_0 13 rfl rfl)
theorem dX10_init_16 : decode cX10_init 16 = .ok (.aload_n 0, 1) := dk_42 (dk_at dksX10_init_0 16 rfl rfl)
theorem dX10_init_17 : decode cX10_init 17 = .ok (.sipush 600, 3) := dk_17 2 88 (dk_at dksX10_init_0 17 rfl rfl)
theorem dX10_init_20 : decode cX10_init 20 = .ok (.newarray .int, 2) := dk_188_10 (dk_at dksX10_init_0 20 rfl rfl)
theorem dX10_init_22 : decode cX10_init 22 = .ok (.putfield 20, 3) := dk_181 0 20 (dk_at dksX10_init_1 0 rfl rfl)
theorem dX10_init_25 : decode cX10_init 25 = .ok (.aload_n 0, 1) := dk_42 (dk_at dksX10_init_1 3 rfl rfl)
theorem dX10_init_26 : decode cX10_init 26 = .ok (.iconst 4, 1) := dk_7 (dk_at dksX10_init_1 4 rfl rfl)
theorem dX10_init_27 : decode cX10_init 27 = .ok (.newarray .int, 2) := dk_188_10 (dk_at dksX10_init_1 5 rfl rfl)
theorem dX10_init_29 : decode cX10_init 29 = .ok (.putfield 23, 3) := dk_181 0 23 (dk_at dksX10_init_1 7 rfl rfl)
theorem dX10_init_32 : decode cX10_init 32 = .ok (.aload_n 0, 1) := dk_42 (dk_at dksX10_init_1 10 rfl rfl)
theorem dX10_init_33 : decode cX10_init 33 = .ok (.bipush 60, 2) := dk_16 60 (dk_at dksX10_init_1 11 rfl rfl)
theorem dX10_init_35 : decode cX10_init 35 = .ok (.newarray .int, 2) := dk_188_10 (dk_at dksX10_init_1 13 rfl rfl)
theorem dX10_init_37 : decode cX10_init 37 = .ok (.putfield 26, 3) := dk_181 0 26 (dk_at dksX10_init_1 15 rfl rfl)
theorem dX10_init_40 : decode cX10_init 40 = .ok (.aload_n 0, 1) := dk_42 (dk_at dksX10_init_1 18 rfl rfl)
theorem dX10_init_41 : decode cX10_init 41 = .ok (.bipush 60, 2) := dk_16 60 (dk_at dksX10_init_1 19 rfl rfl)
theorem dX10_init_43 : decode cX10_init 43 = .ok (.newarray .int, 2) := dk_188_10 (dk_at dksX10_init_1 21 rfl rfl)
theorem dX10_init_45 : decode cX10_init 45 = .ok (.putfield 29, 3) := dk_181 0 29 (dk_at dksX10_init_2 0 rfl rfl)
theorem dX10_init_48 : decode cX10_init 48 = .ok (.aload_n 0, 1) := dk_42 (dk_at dksX10_init_2 3 rfl rfl)
theorem dX10_init_49 : decode cX10_init 49 = .ok (.bipush 6, 2) := dk_16 6 (dk_at dksX10_init_2 4 rfl rfl)
theorem dX10_init_51 : decode cX10_init 51 = .ok (.newarray .int, 2) := dk_188_10 (dk_at dksX10_init_2 6 rfl rfl)
theorem dX10_init_53 : decode cX10_init 53 = .ok (.putfield 32, 3) := dk_181 0 32 (dk_at dksX10_init_2 8 rfl rfl)
theorem dX10_init_56 : decode cX10_init 56 = .ok (.aload_n 0, 1) := dk_42 (dk_at dksX10_init_2 11 rfl rfl)
theorem dX10_init_57 : decode cX10_init 57 = .ok (.bipush 8, 2) := dk_16 8 (dk_at dksX10_init_2 12 rfl rfl)
theorem dX10_init_59 : decode cX10_init 59 = .ok (.newarray .int, 2) := dk_188_10 (dk_at dksX10_init_2 14 rfl rfl)
theorem dX10_init_61 : decode cX10_init 61 = .ok (.putfield 35, 3) := dk_181 0 35 (dk_at dksX10_init_2 16 rfl rfl)
theorem dX10_init_64 : decode cX10_init 64 = .ok (.aload_n 0, 1) := dk_42 (dk_at dksX10_init_2 19 rfl rfl)
theorem dX10_init_65 : decode cX10_init 65 = .ok (.bipush 16, 2) := dk_16 16 (dk_at dksX10_init_2 20 rfl rfl)
theorem dX10_init_67 : decode cX10_init 67 = .ok (.newarray .int, 2) := dk_188_10 (dk_at dksX10_init_2 22 rfl rfl)
theorem dX10_init_69 : decode cX10_init 69 = .ok (.putfield 38, 3) := dk_181 0 38 (dk_at dksX10_init_3 0 rfl rfl)
theorem dX10_init_72 : decode cX10_init 72 = .ok (.aload_n 0, 1) := dk_42 (dk_at dksX10_init_3 3 rfl rfl)
theorem dX10_init_73 : decode cX10_init 73 = .ok (.iconst 4, 1) := dk_7 (dk_at dksX10_init_3 4 rfl rfl)
theorem dX10_init_74 : decode cX10_init 74 = .ok (.newarray .int, 2) := dk_188_10 (dk_at dksX10_init_3 5 rfl rfl)
theorem dX10_init_76 : decode cX10_init 76 = .ok (.putfield 41, 3) := dk_181 0 41 (dk_at dksX10_init_3 7 rfl rfl)
theorem dX10_init_79 : decode cX10_init 79 = .ok (.aload_n 0, 1) := dk_42 (dk_at dksX10_init_3 10 rfl rfl)
theorem dX10_init_80 : decode cX10_init 80 = .ok (.bipush 60, 2) := dk_16 60 (dk_at dksX10_init_3 11 rfl rfl)
theorem dX10_init_82 : decode cX10_init 82 = .ok (.newarray .int, 2) := dk_188_10 (dk_at dksX10_init_3 13 rfl rfl)
theorem dX10_init_84 : decode cX10_init 84 = .ok (.putfield 44, 3) := dk_181 0 44 (dk_at dksX10_init_3 15 rfl rfl)
theorem dX10_init_87 : decode cX10_init 87 = .ok (.aload_n 0, 1) := dk_42 (dk_at dksX10_init_3 18 rfl rfl)
theorem dX10_init_88 : decode cX10_init 88 = .ok (.bipush 60, 2) := dk_16 60 (dk_at dksX10_init_3 19 rfl rfl)
theorem dX10_init_90 : decode cX10_init 90 = .ok (.newarray .int, 2) := dk_188_10 (dk_at dksX10_init_3 21 rfl rfl)
theorem dX10_init_92 : decode cX10_init 92 = .ok (.putfield 47, 3) := dk_181 0 47 (dk_at dksX10_init_4 0 rfl rfl)
theorem dX10_init_95 : decode cX10_init 95 = .ok (.aload_n 0, 1) := dk_42 (dk_at dksX10_init_4 3 rfl rfl)
theorem dX10_init_96 : decode cX10_init 96 = .ok (.bipush 6, 2) := dk_16 6 (dk_at dksX10_init_4 4 rfl rfl)
theorem dX10_init_98 : decode cX10_init 98 = .ok (.newarray .int, 2) := dk_188_10 (dk_at dksX10_init_4 6 rfl rfl)
theorem dX10_init_100 : decode cX10_init 100 = .ok (.putfield 50, 3) := dk_181 0 50 (dk_at dksX10_init_4 8 rfl rfl)
theorem dX10_init_103 : decode cX10_init 103 = .ok (.aload_n 0, 1) := dk_42 (dk_at dksX10_init_4 11 rfl rfl)
theorem dX10_init_104 : decode cX10_init 104 = .ok (.bipush 8, 2) := dk_16 8 (dk_at dksX10_init_4 12 rfl rfl)
theorem dX10_init_106 : decode cX10_init 106 = .ok (.newarray .int, 2) := dk_188_10 (dk_at dksX10_init_4 14 rfl rfl)
theorem dX10_init_108 : decode cX10_init 108 = .ok (.putfield 53, 3) := dk_181 0 53 (dk_at dksX10_init_4 16 rfl rfl)
theorem dX10_init_111 : decode cX10_init 111 = .ok (.aload_n 0, 1) := dk_42 (dk_at dksX10_init_4 19 rfl rfl)
theorem dX10_init_112 : decode cX10_init 112 = .ok (.bipush 16, 2) := dk_16 16 (dk_at dksX10_init_4 20 rfl rfl)
theorem dX10_init_114 : decode cX10_init 114 = .ok (.newarray .int, 2) := dk_188_10 (dk_at dksX10_init_4 22 rfl rfl)
theorem dX10_init_116 : decode cX10_init 116 = .ok (.putfield 56, 3) := dk_181 0 56 (dk_at dksX10_init_5 0 rfl rfl)
theorem dX10_init_119 : decode cX10_init 119 = .ok (.aload_n 0, 1) := dk_42 (dk_at dksX10_init_5 3 rfl rfl)
theorem dX10_init_120 : decode cX10_init 120 = .ok (.sipush 241, 3) := dk_17 0 241 (dk_at dksX10_init_5 4 rfl rfl)
theorem dX10_init_123 : decode cX10_init 123 = .ok (.newarray .boolean, 2) := dk_188_4 (dk_at dksX10_init_5 7 rfl rfl)
theorem dX10_init_125 : decode cX10_init 125 = .ok (.putfield 59, 3) := dk_181 0 59 (dk_at dksX10_init_5 9 rfl rfl)
theorem dX10_init_128 : decode cX10_init 128 = .ok (.aload_n 0, 1) := dk_42 (dk_at dksX10_init_5 12 rfl rfl)
theorem dX10_init_129 : decode cX10_init 129 = .ok (.sipush 241, 3) := dk_17 0 241 (dk_at dksX10_init_5 13 rfl rfl)
theorem dX10_init_132 : decode cX10_init 132 = .ok (.newarray .boolean, 2) := dk_188_4 (dk_at dksX10_init_5 16 rfl rfl)
theorem dX10_init_134 : decode cX10_init 134 = .ok (.putfield 63, 3) := dk_181 0 63 (dk_at dksX10_init_5 18 rfl rfl)
theorem dX10_init_137 : decode cX10_init 137 = .ok (.aload_n 0, 1) := dk_42 (dk_at dksX10_init_5 21 rfl rfl)
theorem dX10_init_138 : decode cX10_init 138 = .ok (.iconst 5, 1) := dk_8 (dk_at dksX10_init_5 22 rfl rfl)
theorem dX10_init_139 : decode cX10_init 139 = .ok (.newarray .int, 2) := dk_188_10 (dk_at dksX10_init_6 0 rfl rfl)
theorem dX10_init_141 : decode cX10_init 141 = .ok (.putfield 66, 3) := dk_181 0 66 (dk_at dksX10_init_6 2 rfl rfl)
theorem dX10_init_144 : decode cX10_init 144 = .ok (.aload_n 0, 1) := dk_42 (dk_at dksX10_init_6 5 rfl rfl)
theorem dX10_init_145 : decode cX10_init 145 = .ok (.iconst 5, 1) := dk_8 (dk_at dksX10_init_6 6 rfl rfl)
theorem dX10_init_146 : decode cX10_init 146 = .ok (.newarray .int, 2) := dk_188_10 (dk_at dksX10_init_6 7 rfl rfl)
theorem dX10_init_148 : decode cX10_init 148 = .ok (.putfield 69, 3) := dk_181 0 69 (dk_at dksX10_init_6 9 rfl rfl)
theorem dX10_init_151 : decode cX10_init 151 = .ok (.aload_n 0, 1) := dk_42 (dk_at dksX10_init_6 12 rfl rfl)
theorem dX10_init_152 : decode cX10_init 152 = .ok (.sipush 150, 3) := dk_17 0 150 (dk_at dksX10_init_6 13 rfl rfl)
theorem dX10_init_155 : decode cX10_init 155 = .ok (.newarray .int, 2) := dk_188_10 (dk_at dksX10_init_6 16 rfl rfl)
theorem dX10_init_157 : decode cX10_init 157 = .ok (.putfield 72, 3) := dk_181 0 72 (dk_at dksX10_init_6 18 rfl rfl)
theorem dX10_init_160 : decode cX10_init 160 = .ok (.aload_n 0, 1) := dk_42 (dk_at dksX10_init_6 21 rfl rfl)
theorem dX10_init_161 : decode cX10_init 161 = .ok (.sipush 150, 3) := dk_17 0 150 (dk_at dksX10_init_7 0 rfl rfl)
theorem dX10_init_164 : decode cX10_init 164 = .ok (.newarray .int, 2) := dk_188_10 (dk_at dksX10_init_7 3 rfl rfl)
theorem dX10_init_166 : decode cX10_init 166 = .ok (.putfield 75, 3) := dk_181 0 75 (dk_at dksX10_init_7 5 rfl rfl)
theorem dX10_init_169 : decode cX10_init 169 = .ok (.aload_n 0, 1) := dk_42 (dk_at dksX10_init_7 8 rfl rfl)
theorem dX10_init_170 : decode cX10_init 170 = .ok (.sipush 150, 3) := dk_17 0 150 (dk_at dksX10_init_7 9 rfl rfl)
theorem dX10_init_173 : decode cX10_init 173 = .ok (.newarray .int, 2) := dk_188_10 (dk_at dksX10_init_7 12 rfl rfl)
theorem dX10_init_175 : decode cX10_init 175 = .ok (.putfield 78, 3) := dk_181 0 78 (dk_at dksX10_init_7 14 rfl rfl)
theorem dX10_init_178 : decode cX10_init 178 = .ok (.aload_n 0, 1) := dk_42 (dk_at dksX10_init_7 17 rfl rfl)
theorem dX10_init_179 : decode cX10_init 179 = .ok (.sipush 150, 3) := dk_17 0 150 (dk_at dksX10_init_7 18 rfl rfl)
theorem dX10_init_182 : decode cX10_init 182 = .ok (.newarray .int, 2) := dk_188_10 (dk_at dksX10_init_7 21 rfl rfl)
theorem dX10_init_184 : decode cX10_init 184 = .ok (.putfield 81, 3) := dk_181 0 81 (dk_at dksX10_init_8 0 rfl rfl)
theorem dX10_init_187 : decode cX10_init 187 = .ok (.aload_n 0, 1) := dk_42 (dk_at dksX10_init_8 3 rfl rfl)
theorem dX10_init_188 : decode cX10_init 188 = .ok (.sipush 150, 3) := dk_17 0 150 (dk_at dksX10_init_8 4 rfl rfl)
theorem dX10_init_191 : decode cX10_init 191 = .ok (.newarray .int, 2) := dk_188_10 (dk_at dksX10_init_8 7 rfl rfl)
theorem dX10_init_193 : decode cX10_init 193 = .ok (.putfield 84, 3) := dk_181 0 84 (dk_at dksX10_init_8 9 rfl rfl)
theorem dX10_init_196 : decode cX10_init 196 = .ok (.aload_n 0, 1) := dk_42 (dk_at dksX10_init_8 12 rfl rfl)
theorem dX10_init_197 : decode cX10_init 197 = .ok (.bipush 6, 2) := dk_16 6 (dk_at dksX10_init_8 13 rfl rfl)
theorem dX10_init_199 : decode cX10_init 199 = .ok (.newarray .int, 2) := dk_188_10 (dk_at dksX10_init_8 15 rfl rfl)
theorem dX10_init_201 : decode cX10_init 201 = .ok (.putfield 87, 3) := dk_181 0 87 (dk_at dksX10_init_8 17 rfl rfl)
theorem dX10_init_204 : decode cX10_init 204 = .ok (.aload_n 0, 1) := dk_42 (dk_at dksX10_init_8 20 rfl rfl)
theorem dX10_init_205 : decode cX10_init 205 = .ok (.bipush 24, 2) := dk_16 24 (dk_at dksX10_init_8 21 rfl rfl)
theorem dX10_init_207 : decode cX10_init 207 = .ok (.newarray .int, 2) := dk_188_10 (dk_at dksX10_init_9 0 rfl rfl)
theorem dX10_init_209 : decode cX10_init 209 = .ok (.putfield 90, 3) := dk_181 0 90 (dk_at dksX10_init_9 2 rfl rfl)
theorem dX10_init_212 : decode cX10_init 212 = .ok (.aload_n 0, 1) := dk_42 (dk_at dksX10_init_9 5 rfl rfl)
theorem dX10_init_213 : decode cX10_init 213 = .ok (.bipush 24, 2) := dk_16 24 (dk_at dksX10_init_9 6 rfl rfl)
theorem dX10_init_215 : decode cX10_init 215 = .ok (.newarray .int, 2) := dk_188_10 (dk_at dksX10_init_9 8 rfl rfl)
theorem dX10_init_217 : decode cX10_init 217 = .ok (.putfield 93, 3) := dk_181 0 93 (dk_at dksX10_init_9 10 rfl rfl)
theorem dX10_init_220 : decode cX10_init 220 = .ok (.aload_n 0, 1) := dk_42 (dk_at dksX10_init_9 13 rfl rfl)
theorem dX10_init_221 : decode cX10_init 221 = .ok (.iconst 3, 1) := dk_6 (dk_at dksX10_init_9 14 rfl rfl)
theorem dX10_init_222 : decode cX10_init 222 = .ok (.newarray .int, 2) := dk_188_10 (dk_at dksX10_init_9 15 rfl rfl)
theorem dX10_init_224 : decode cX10_init 224 = .ok (.putfield 96, 3) := dk_181 0 96 (dk_at dksX10_init_9 17 rfl rfl)
theorem dX10_init_227 : decode cX10_init 227 = .ok (.aload_n 0, 1) := dk_42 (dk_at dksX10_init_9 20 rfl rfl)
theorem dX10_init_228 : decode cX10_init 228 = .ok (.iconst 3, 1) := dk_6 (dk_at dksX10_init_9 21 rfl rfl)
theorem dX10_init_229 : decode cX10_init 229 = .ok (.newarray .int, 2) := dk_188_10 (dk_at dksX10_init_9 22 rfl rfl)
theorem dX10_init_231 : decode cX10_init 231 = .ok (.putfield 99, 3) := dk_181 0 99 (dk_at dksX10_init_10 0 rfl rfl)
theorem dX10_init_234 : decode cX10_init 234 = .ok (.aload_n 0, 1) := dk_42 (dk_at dksX10_init_10 3 rfl rfl)
theorem dX10_init_235 : decode cX10_init 235 = .ok (.bipush 12, 2) := dk_16 12 (dk_at dksX10_init_10 4 rfl rfl)
theorem dX10_init_237 : decode cX10_init 237 = .ok (.newarray .int, 2) := dk_188_10 (dk_at dksX10_init_10 6 rfl rfl)
theorem dX10_init_239 : decode cX10_init 239 = .ok (.putfield 102, 3) := dk_181 0 102 (dk_at dksX10_init_10 8 rfl rfl)
theorem dX10_init_242 : decode cX10_init 242 = .ok (.aload_n 0, 1) := dk_42 (dk_at dksX10_init_10 11 rfl rfl)
theorem dX10_init_243 : decode cX10_init 243 = .ok (.bipush 12, 2) := dk_16 12 (dk_at dksX10_init_10 12 rfl rfl)
theorem dX10_init_245 : decode cX10_init 245 = .ok (.newarray .int, 2) := dk_188_10 (dk_at dksX10_init_10 14 rfl rfl)
theorem dX10_init_247 : decode cX10_init 247 = .ok (.putfield 105, 3) := dk_181 0 105 (dk_at dksX10_init_10 16 rfl rfl)
theorem dX10_init_250 : decode cX10_init 250 = .ok (.aload_n 0, 1) := dk_42 (dk_at dksX10_init_10 19 rfl rfl)
theorem dX10_init_251 : decode cX10_init 251 = .ok (.iconst 4, 1) := dk_7 (dk_at dksX10_init_10 20 rfl rfl)
theorem dX10_init_252 : decode cX10_init 252 = .ok (.newarray .int, 2) := dk_188_10 (dk_at dksX10_init_10 21 rfl rfl)
theorem dX10_init_254 : decode cX10_init 254 = .ok (.putfield 108, 3) := dk_181 0 108 (dk_at dksX10_init_11 0 rfl rfl)
theorem dX10_init_257 : decode cX10_init 257 = .ok (.aload_n 0, 1) := dk_42 (dk_at dksX10_init_11 3 rfl rfl)
theorem dX10_init_258 : decode cX10_init 258 = .ok (.bipush 12, 2) := dk_16 12 (dk_at dksX10_init_11 4 rfl rfl)
theorem dX10_init_260 : decode cX10_init 260 = .ok (.newarray .int, 2) := dk_188_10 (dk_at dksX10_init_11 6 rfl rfl)
theorem dX10_init_262 : decode cX10_init 262 = .ok (.putfield 111, 3) := dk_181 0 111 (dk_at dksX10_init_11 8 rfl rfl)
theorem dX10_init_265 : decode cX10_init 265 = .ok (.aload_n 0, 1) := dk_42 (dk_at dksX10_init_11 11 rfl rfl)
theorem dX10_init_266 : decode cX10_init 266 = .ok (.iconst 4, 1) := dk_7 (dk_at dksX10_init_11 12 rfl rfl)
theorem dX10_init_267 : decode cX10_init 267 = .ok (.newarray .int, 2) := dk_188_10 (dk_at dksX10_init_11 13 rfl rfl)
theorem dX10_init_269 : decode cX10_init 269 = .ok (.putfield 114, 3) := dk_181 0 114 (dk_at dksX10_init_11 15 rfl rfl)
theorem dX10_init_272 : decode cX10_init 272 = .ok (.aload_n 0, 1) := dk_42 (dk_at dksX10_init_11 18 rfl rfl)
theorem dX10_init_273 : decode cX10_init 273 = .ok (.iconst 4, 1) := dk_7 (dk_at dksX10_init_11 19 rfl rfl)
theorem dX10_init_274 : decode cX10_init 274 = .ok (.newarray .int, 2) := dk_188_10 (dk_at dksX10_init_11 20 rfl rfl)
theorem dX10_init_276 : decode cX10_init 276 = .ok (.putfield 117, 3) := dk_181 0 117 (dk_at dksX10_init_12 0 rfl rfl)
theorem dX10_init_279 : decode cX10_init 279 = .ok (.aload_n 0, 1) := dk_42 (dk_at dksX10_init_12 3 rfl rfl)
theorem dX10_init_280 : decode cX10_init 280 = .ok (.bipush 12, 2) := dk_16 12 (dk_at dksX10_init_12 4 rfl rfl)
theorem dX10_init_282 : decode cX10_init 282 = .ok (.newarray .int, 2) := dk_188_10 (dk_at dksX10_init_12 6 rfl rfl)
theorem dX10_init_284 : decode cX10_init 284 = .ok (.putfield 120, 3) := dk_181 0 120 (dk_at dksX10_init_12 8 rfl rfl)
theorem dX10_init_287 : decode cX10_init 287 = .ok (.aload_n 0, 1) := dk_42 (dk_at dksX10_init_12 11 rfl rfl)
theorem dX10_init_288 : decode cX10_init 288 = .ok (.bipush 12, 2) := dk_16 12 (dk_at dksX10_init_12 12 rfl rfl)
theorem dX10_init_290 : decode cX10_init 290 = .ok (.newarray .int, 2) := dk_188_10 (dk_at dksX10_init_12 14 rfl rfl)
theorem dX10_init_292 : decode cX10_init 292 = .ok (.putfield 123, 3) := dk_181 0 123 (dk_at dksX10_init_12 16 rfl rfl)
theorem dX10_init_295 : decode cX10_init 295 = .ok (.aload_n 0, 1) := dk_42 (dk_at dksX10_init_12 19 rfl rfl)
theorem dX10_init_296 : decode cX10_init 296 = .ok (.bipush 24, 2) := dk_16 24 (dk_at dksX10_init_12 20 rfl rfl)
theorem dX10_init_298 : decode cX10_init 298 = .ok (.newarray .int, 2) := dk_188_10 (dk_at dksX10_init_12 22 rfl rfl)
theorem dX10_init_300 : decode cX10_init 300 = .ok (.putfield 126, 3) := dk_181 0 126 (dk_at dksX10_init_13 0 rfl rfl)
theorem dX10_init_303 : decode cX10_init 303 = .ok (.aload_n 0, 1) := dk_42 (dk_at dksX10_init_13 3 rfl rfl)
theorem dX10_init_304 : decode cX10_init 304 = .ok (.bipush 10, 2) := dk_16 10 (dk_at dksX10_init_13 4 rfl rfl)
theorem dX10_init_306 : decode cX10_init 306 = .ok (.newarray .int, 2) := dk_188_10 (dk_at dksX10_init_13 6 rfl rfl)
theorem dX10_init_308 : decode cX10_init 308 = .ok (.putfield 129, 3) := dk_181 0 129 (dk_at dksX10_init_13 8 rfl rfl)
theorem dX10_init_311 : decode cX10_init 311 = .ok (.aload_n 0, 1) := dk_42 (dk_at dksX10_init_13 11 rfl rfl)
theorem dX10_init_312 : decode cX10_init 312 = .ok (.bipush 10, 2) := dk_16 10 (dk_at dksX10_init_13 12 rfl rfl)
theorem dX10_init_314 : decode cX10_init 314 = .ok (.newarray .int, 2) := dk_188_10 (dk_at dksX10_init_13 14 rfl rfl)
theorem dX10_init_316 : decode cX10_init 316 = .ok (.putfield 132, 3) := dk_181 0 132 (dk_at dksX10_init_13 16 rfl rfl)
theorem dX10_init_319 : decode cX10_init 319 = .ok (.aload_n 0, 1) := dk_42 (dk_at dksX10_init_13 19 rfl rfl)
theorem dX10_init_320 : decode cX10_init 320 = .ok (.sipush 3200, 3) := dk_17 12 128 (dk_at dksX10_init_13 20 rfl rfl)
theorem dX10_init_323 : decode cX10_init 323 = .ok (.newarray .int, 2) := dk_188_10 (dk_at dksX10_init_14 0 rfl rfl)
theorem dX10_init_325 : decode cX10_init 325 = .ok (.putfield 135, 3) := dk_181 0 135 (dk_at dksX10_init_14 2 rfl rfl)
theorem dX10_init_328 : decode cX10_init 328 = .ok (.aload_n 0, 1) := dk_42 (dk_at dksX10_init_14 5 rfl rfl)
theorem dX10_init_329 : decode cX10_init 329 = .ok (.sipush 500, 3) := dk_17 1 244 (dk_at dksX10_init_14 6 rfl rfl)
theorem dX10_init_332 : decode cX10_init 332 = .ok (.newarray .int, 2) := dk_188_10 (dk_at dksX10_init_14 9 rfl rfl)
theorem dX10_init_334 : decode cX10_init 334 = .ok (.putfield 138, 3) := dk_181 0 138 (dk_at dksX10_init_14 11 rfl rfl)
theorem dX10_init_337 : decode cX10_init 337 = .ok (.aload_n 0, 1) := dk_42 (dk_at dksX10_init_14 14 rfl rfl)
theorem dX10_init_338 : decode cX10_init 338 = .ok (.sipush 1578, 3) := dk_17 6 42 (dk_at dksX10_init_14 15 rfl rfl)
theorem dX10_init_341 : decode cX10_init 341 = .ok (.newarray .int, 2) := dk_188_10 (dk_at dksX10_init_14 18 rfl rfl)
theorem dX10_init_343 : decode cX10_init 343 = .ok (.putfield 141, 3) := dk_181 0 141 (dk_at dksX10_init_14 20 rfl rfl)
theorem dX10_init_346 : decode cX10_init 346 = .ok (.aload_n 0, 1) := dk_42 (dk_at dksX10_init_14 23 rfl rfl)
theorem dX10_init_347 : decode cX10_init 347 = .ok (.invokevirtual 144, 3) := dk_182 0 144 (dk_at dksX10_init_15 0 rfl rfl)
theorem dX10_init_350 : decode cX10_init 350 = .ok (.aload_n 0, 1) := dk_42 (dk_at dksX10_init_15 3 rfl rfl)
theorem dX10_init_351 : decode cX10_init 351 = .ok (.invokevirtual 147, 3) := dk_182 0 147 (dk_at dksX10_init_15 4 rfl rfl)
theorem dX10_init_354 : decode cX10_init 354 = .ok (.return_, 1) := dk_177 (dk_at dksX10_init_15 7 rfl rfl)
abbrev cX10_clears : ByteArray := prog_19_method_20_code
def yX10_clears : MethodName := ⟨RX10, "clears", "()V"⟩
def dkwX10_clears_4 : List UInt8 := [180, 0, 66, 5, 3, 79, 42, 180, 0, 66, 6, 16, 30, 79, 42, 180, 0, 66, 7, 8, 79, 177]
abbrev dktX10_clears_4 : List UInt8 := dkwX10_clears_4 ++ []
def dkwX10_clears_3 : List UInt8 := [132, 1, 1, 167, 255, 239, 42, 180, 0, 66, 3, 16, 20, 79, 42, 180, 0, 66, 4, 5, 79, 42]
abbrev dktX10_clears_3 : List UInt8 := dkwX10_clears_3 ++ dktX10_clears_4
def dkwX10_clears_2 : List UInt8 := [132, 1, 1, 167, 255, 240, 3, 60, 27, 17, 0, 241, 162, 0, 16, 42, 180, 0, 59, 27, 3, 84]
abbrev dktX10_clears_2 : List UInt8 := dkwX10_clears_2 ++ dktX10_clears_3
def dkwX10_clears_1 : List UInt8 := [181, 0, 208, 42, 3, 181, 0, 211, 3, 60, 27, 16, 60, 162, 0, 16, 42, 180, 0, 29, 27, 6, 79]
abbrev dktX10_clears_1 : List UInt8 := dkwX10_clears_1 ++ dktX10_clears_2
def dkwX10_clears_0 : List UInt8 := [42, 3, 181, 0, 196, 42, 3, 181, 0, 199, 42, 3, 181, 0, 202, 42, 3, 181, 0, 205, 42, 3]
abbrev dktX10_clears_0 : List UInt8 := dkwX10_clears_0 ++ dktX10_clears_1
theorem dksX10_clears_0 : cX10_clears.data.toList.drop 0 = dktX10_clears_0 := by decide +kernel
theorem dksX10_clears_1 : cX10_clears.data.toList.drop 22 = dktX10_clears_1 := dk_seg dksX10_clears_0 22 rfl rfl
theorem dksX10_clears_2 : cX10_clears.data.toList.drop 45 = dktX10_clears_2 := dk_seg dksX10_clears_1 23 rfl rfl
theorem dksX10_clears_3 : cX10_clears.data.toList.drop 67 = dktX10_clears_3 := dk_seg dksX10_clears_2 22 rfl rfl
theorem dksX10_clears_4 : cX10_clears.data.toList.drop 89 = dktX10_clears_4 := dk_seg dksX10_clears_3 22 rfl rfl
theorem dX10_clears_0 : decode cX10_clears 0 = .ok (.aload_n 0, 1) := dk_42 (dk_at dksX10_clears_0 0 rfl rfl)
theorem dX10_clears_1 : decode cX10_clears 1 = .ok (.iconst 0, 1) := dk_3 (dk_at dksX10_clears_0 1 rfl rfl)
theorem dX10_clears_2 : decode cX10_clears 2 = .ok (.putfield 196, 3) := dk_181 0 196 (dk_at dksX10_clears_0 2 rfl rfl)
theorem dX10_clears_5 : decode cX10_clears 5 = .ok (.aload_n 0, 1) := dk_42 (dk_at dksX10_clears_0 5 rfl rfl)
theorem dX10_clears_6 : decode cX10_clears 6 = .ok (.iconst 0, 1) := dk_3 (dk_at dksX10_clears_0 6 rfl rfl)
theorem dX10_clears_7 : decode cX10_clears 7 = .ok (.putfield 199, 3) := dk_181 0 199 (dk_at dksX10_clears_0 7 rfl rfl)
theorem dX10_clears_10 : decode cX10_clears 10 = .ok (.aload_n 0, 1) := dk_42 (dk_at dksX10_clears_0 10 rfl rfl)
theorem dX10_clears_11 : decode cX10_clears 11 = .ok (.iconst 0, 1) := dk_3 (dk_at dksX10_clears_0 11 rfl rfl)
theorem dX10_clears_12 : decode cX10_clears 12 = .ok (.putfield 202, 3) := dk_181 0 202 (dk_at dksX10_clears_0 12 rfl rfl)
theorem dX10_clears_15 : decode cX10_clears 15 = .ok (.aload_n 0, 1) := dk_42 (dk_at dksX10_clears_0 15 rfl rfl)
theorem dX10_clears_16 : decode cX10_clears 16 = .ok (.iconst 0, 1) := dk_3 (dk_at dksX10_clears_0 16 rfl rfl)
theorem dX10_clears_17 : decode cX10_clears 17 = .ok (.putfield 205, 3) := dk_181 0 205 (dk_at dksX10_clears_0 17 rfl rfl)
theorem dX10_clears_20 : decode cX10_clears 20 = .ok (.aload_n 0, 1) := dk_42 (dk_at dksX10_clears_0 20 rfl rfl)
theorem dX10_clears_21 : decode cX10_clears 21 = .ok (.iconst 0, 1) := dk_3 (dk_at dksX10_clears_0 21 rfl rfl)
theorem dX10_clears_22 : decode cX10_clears 22 = .ok (.putfield 208, 3) := dk_181 0 208 (dk_at dksX10_clears_1 0 rfl rfl)
theorem dX10_clears_25 : decode cX10_clears 25 = .ok (.aload_n 0, 1) := dk_42 (dk_at dksX10_clears_1 3 rfl rfl)
theorem dX10_clears_26 : decode cX10_clears 26 = .ok (.iconst 0, 1) := dk_3 (dk_at dksX10_clears_1 4 rfl rfl)
theorem dX10_clears_27 : decode cX10_clears 27 = .ok (.putfield 211, 3) := dk_181 0 211 (dk_at dksX10_clears_1 5 rfl rfl)
theorem dX10_clears_30 : decode cX10_clears 30 = .ok (.iconst 0, 1) := dk_3 (dk_at dksX10_clears_1 8 rfl rfl)
theorem dX10_clears_31 : decode cX10_clears 31 = .ok (.istore_n 1, 1) := dk_60 (dk_at dksX10_clears_1 9 rfl rfl)
theorem dX10_clears_32 : decode cX10_clears 32 = .ok (.iload_n 1, 1) := dk_27 (dk_at dksX10_clears_1 10 rfl rfl)
theorem dX10_clears_33 : decode cX10_clears 33 = .ok (.bipush 60, 2) := dk_16 60 (dk_at dksX10_clears_1 11 rfl rfl)
theorem dX10_clears_35 : decode cX10_clears 35 = .ok (.if_icmp .ge 16, 3) := dk_162 0 16 (dk_at dksX10_clears_1 13 rfl rfl)
theorem dX10_clears_38 : decode cX10_clears 38 = .ok (.aload_n 0, 1) := dk_42 (dk_at dksX10_clears_1 16 rfl rfl)
theorem dX10_clears_39 : decode cX10_clears 39 = .ok (.getfield 29, 3) := dk_180 0 29 (dk_at dksX10_clears_1 17 rfl rfl)
theorem dX10_clears_42 : decode cX10_clears 42 = .ok (.iload_n 1, 1) := dk_27 (dk_at dksX10_clears_1 20 rfl rfl)
theorem dX10_clears_43 : decode cX10_clears 43 = .ok (.iconst 3, 1) := dk_6 (dk_at dksX10_clears_1 21 rfl rfl)
theorem dX10_clears_44 : decode cX10_clears 44 = .ok (.iastore, 1) := dk_79 (dk_at dksX10_clears_1 22 rfl rfl)
theorem dX10_clears_45 : decode cX10_clears 45 = .ok (.iinc 1 1, 3) := dk_132 1 1 (dk_at dksX10_clears_2 0 rfl rfl)
theorem dX10_clears_48 : decode cX10_clears 48 = .ok (.goto (-16), 3) := dk_167 255 240 (dk_at dksX10_clears_2 3 rfl rfl)
theorem dX10_clears_51 : decode cX10_clears 51 = .ok (.iconst 0, 1) := dk_3 (dk_at dksX10_clears_2 6 rfl rfl)
theorem dX10_clears_52 : decode cX10_clears 52 = .ok (.istore_n 1, 1) := dk_60 (dk_at dksX10_clears_2 7 rfl rfl)
theorem dX10_clears_53 : decode cX10_clears 53 = .ok (.iload_n 1, 1) := dk_27 (dk_at dksX10_clears_2 8 rfl rfl)
theorem dX10_clears_54 : decode cX10_clears 54 = .ok (.sipush 241, 3) := dk_17 0 241 (dk_at dksX10_clears_2 9 rfl rfl)
theorem dX10_clears_57 : decode cX10_clears 57 = .ok (.if_icmp .ge 16, 3) := dk_162 0 16 (dk_at dksX10_clears_2 12 rfl rfl)
theorem dX10_clears_60 : decode cX10_clears 60 = .ok (.aload_n 0, 1) := dk_42 (dk_at dksX10_clears_2 15 rfl rfl)
theorem dX10_clears_61 : decode cX10_clears 61 = .ok (.getfield 59, 3) := dk_180 0 59 (dk_at dksX10_clears_2 16 rfl rfl)
theorem dX10_clears_64 : decode cX10_clears 64 = .ok (.iload_n 1, 1) := dk_27 (dk_at dksX10_clears_2 19 rfl rfl)
theorem dX10_clears_65 : decode cX10_clears 65 = .ok (.iconst 0, 1) := dk_3 (dk_at dksX10_clears_2 20 rfl rfl)
theorem dX10_clears_66 : decode cX10_clears 66 = .ok (.bastore, 1) := dk_84 (dk_at dksX10_clears_2 21 rfl rfl)
theorem dX10_clears_67 : decode cX10_clears 67 = .ok (.iinc 1 1, 3) := dk_132 1 1 (dk_at dksX10_clears_3 0 rfl rfl)
theorem dX10_clears_70 : decode cX10_clears 70 = .ok (.goto (-17), 3) := dk_167 255 239 (dk_at dksX10_clears_3 3 rfl rfl)
theorem dX10_clears_73 : decode cX10_clears 73 = .ok (.aload_n 0, 1) := dk_42 (dk_at dksX10_clears_3 6 rfl rfl)
theorem dX10_clears_74 : decode cX10_clears 74 = .ok (.getfield 66, 3) := dk_180 0 66 (dk_at dksX10_clears_3 7 rfl rfl)
theorem dX10_clears_77 : decode cX10_clears 77 = .ok (.iconst 0, 1) := dk_3 (dk_at dksX10_clears_3 10 rfl rfl)
theorem dX10_clears_78 : decode cX10_clears 78 = .ok (.bipush 20, 2) := dk_16 20 (dk_at dksX10_clears_3 11 rfl rfl)
theorem dX10_clears_80 : decode cX10_clears 80 = .ok (.iastore, 1) := dk_79 (dk_at dksX10_clears_3 13 rfl rfl)
theorem dX10_clears_81 : decode cX10_clears 81 = .ok (.aload_n 0, 1) := dk_42 (dk_at dksX10_clears_3 14 rfl rfl)
theorem dX10_clears_82 : decode cX10_clears 82 = .ok (.getfield 66, 3) := dk_180 0 66 (dk_at dksX10_clears_3 15 rfl rfl)
theorem dX10_clears_85 : decode cX10_clears 85 = .ok (.iconst 1, 1) := dk_4 (dk_at dksX10_clears_3 18 rfl rfl)
theorem dX10_clears_86 : decode cX10_clears 86 = .ok (.iconst 2, 1) := dk_5 (dk_at dksX10_clears_3 19 rfl rfl)
theorem dX10_clears_87 : decode cX10_clears 87 = .ok (.iastore, 1) := dk_79 (dk_at dksX10_clears_3 20 rfl rfl)
theorem dX10_clears_88 : decode cX10_clears 88 = .ok (.aload_n 0, 1) := dk_42 (dk_at dksX10_clears_3 21 rfl rfl)
theorem dX10_clears_89 : decode cX10_clears 89 = .ok (.getfield 66, 3) := dk_180 0 66 (dk_at dksX10_clears_4 0 rfl rfl)
theorem dX10_clears_92 : decode cX10_clears 92 = .ok (.iconst 2, 1) := dk_5 (dk_at dksX10_clears_4 3 rfl rfl)
theorem dX10_clears_93 : decode cX10_clears 93 = .ok (.iconst 0, 1) := dk_3 (dk_at dksX10_clears_4 4 rfl rfl)
theorem dX10_clears_94 : decode cX10_clears 94 = .ok (.iastore, 1) := dk_79 (dk_at dksX10_clears_4 5 rfl rfl)
theorem dX10_clears_95 : decode cX10_clears 95 = .ok (.aload_n 0, 1) := dk_42 (dk_at dksX10_clears_4 6 rfl rfl)
theorem dX10_clears_96 : decode cX10_clears 96 = .ok (.getfield 66, 3) := dk_180 0 66 (dk_at dksX10_clears_4 7 rfl rfl)
theorem dX10_clears_99 : decode cX10_clears 99 = .ok (.iconst 3, 1) := dk_6 (dk_at dksX10_clears_4 10 rfl rfl)
theorem dX10_clears_100 : decode cX10_clears 100 = .ok (.bipush 30, 2) := dk_16 30 (dk_at dksX10_clears_4 11 rfl rfl)
theorem dX10_clears_102 : decode cX10_clears 102 = .ok (.iastore, 1) := dk_79 (dk_at dksX10_clears_4 13 rfl rfl)
theorem dX10_clears_103 : decode cX10_clears 103 = .ok (.aload_n 0, 1) := dk_42 (dk_at dksX10_clears_4 14 rfl rfl)
theorem dX10_clears_104 : decode cX10_clears 104 = .ok (.getfield 66, 3) := dk_180 0 66 (dk_at dksX10_clears_4 15 rfl rfl)
theorem dX10_clears_107 : decode cX10_clears 107 = .ok (.iconst 4, 1) := dk_7 (dk_at dksX10_clears_4 18 rfl rfl)
theorem dX10_clears_108 : decode cX10_clears 108 = .ok (.iconst 5, 1) := dk_8 (dk_at dksX10_clears_4 19 rfl rfl)
theorem dX10_clears_109 : decode cX10_clears 109 = .ok (.iastore, 1) := dk_79 (dk_at dksX10_clears_4 20 rfl rfl)
theorem dX10_clears_110 : decode cX10_clears 110 = .ok (.return_, 1) := dk_177 (dk_at dksX10_clears_4 21 rfl rfl)
abbrev cX10_sets : ByteArray := prog_19_method_22_code
def yX10_sets : MethodName := ⟨RX10, "sets", "()V"⟩
def dkwX10_sets_8 : List UInt8 := [132, 1, 1, 167, 255, 241, 42, 3, 181, 0, 239, 42, 3, 181, 0, 242, 42, 3, 181, 0, 245, 177]
abbrev dktX10_sets_8 : List UInt8 := dkwX10_sets_8 ++ []
def dkwX10_sets_7 : List UInt8 := [42, 3, 181, 0, 233, 42, 3, 181, 0, 236, 3, 60, 27, 6, 162, 0, 16, 42, 180, 0, 99, 27, 2, 79]
abbrev dktX10_sets_7 : List UInt8 := dkwX10_sets_7 ++ dktX10_sets_8
def dkwX10_sets_6 : List UInt8 := [17, 0, 241, 162, 0, 21, 42, 180, 0, 63, 27, 42, 180, 0, 59, 27, 51, 84, 132, 1, 1, 167, 255, 234]
abbrev dktX10_sets_6 : List UInt8 := dkwX10_sets_6 ++ dktX10_sets_7
def dkwX10_sets_5 : List UInt8 := [180, 0, 56, 16, 16, 182, 0, 229, 42, 42, 180, 0, 66, 42, 180, 0, 69, 8, 182, 0, 229, 3, 60, 27]
abbrev dktX10_sets_5 : List UInt8 := dkwX10_sets_5 ++ dktX10_sets_6
def dkwX10_sets_4 : List UInt8 := [182, 0, 229, 42, 42, 180, 0, 35, 42, 180, 0, 53, 16, 8, 182, 0, 229, 42, 42, 180, 0, 38, 42]
abbrev dktX10_sets_4 : List UInt8 := dkwX10_sets_4 ++ dktX10_sets_5
def dkwX10_sets_3 : List UInt8 := [180, 0, 29, 42, 180, 0, 47, 16, 60, 182, 0, 229, 42, 42, 180, 0, 32, 42, 180, 0, 50, 16, 6]
abbrev dktX10_sets_3 : List UInt8 := dkwX10_sets_3 ++ dktX10_sets_4
def dkwX10_sets_2 : List UInt8 := [180, 0, 41, 7, 182, 0, 229, 42, 42, 180, 0, 26, 42, 180, 0, 44, 16, 60, 182, 0, 229, 42, 42]
abbrev dktX10_sets_2 : List UInt8 := dkwX10_sets_2 ++ dktX10_sets_3
def dkwX10_sets_1 : List UInt8 := [42, 42, 180, 0, 208, 181, 0, 223, 42, 42, 180, 0, 211, 181, 0, 226, 42, 42, 180, 0, 23, 42]
abbrev dktX10_sets_1 : List UInt8 := dkwX10_sets_1 ++ dktX10_sets_2
def dkwX10_sets_0 : List UInt8 := [42, 42, 180, 0, 196, 181, 0, 214, 42, 42, 180, 0, 199, 181, 0, 217, 42, 42, 180, 0, 205, 181, 0, 220]
abbrev dktX10_sets_0 : List UInt8 := dkwX10_sets_0 ++ dktX10_sets_1
theorem dksX10_sets_0 : cX10_sets.data.toList.drop 0 = dktX10_sets_0 := by decide +kernel
theorem dksX10_sets_1 : cX10_sets.data.toList.drop 24 = dktX10_sets_1 := dk_seg dksX10_sets_0 24 rfl rfl
theorem dksX10_sets_2 : cX10_sets.data.toList.drop 46 = dktX10_sets_2 := dk_seg dksX10_sets_1 22 rfl rfl
theorem dksX10_sets_3 : cX10_sets.data.toList.drop 69 = dktX10_sets_3 := dk_seg dksX10_sets_2 23 rfl rfl
theorem dksX10_sets_4 : cX10_sets.data.toList.drop 92 = dktX10_sets_4 := dk_seg dksX10_sets_3 23 rfl rfl
theorem dksX10_sets_5 : cX10_sets.data.toList.drop 115 = dktX10_sets_5 := dk_seg dksX10_sets_4 23 rfl rfl
theorem dksX10_sets_6 : cX10_sets.data.toList.drop 139 = dktX10_sets_6 := dk_seg dksX10_sets_5 24 rfl rfl
theorem dksX10_sets_7 : cX10_sets.data.toList.drop 163 = dktX10_sets_7 := dk_seg dksX10_sets_6 24 rfl rfl
theorem dksX10_sets_8 : cX10_sets.data.toList.drop 187 = dktX10_sets_8 := dk_seg dksX10_sets_7 24 rfl rfl
theorem dX10_sets_0 : decode cX10_sets 0 = .ok (.aload_n 0, 1) := dk_42 (dk_at dksX10_sets_0 0 rfl rfl)
theorem dX10_sets_1 : decode cX10_sets 1 = .ok (.aload_n 0, 1) := dk_42 (dk_at dksX10_sets_0 1 rfl rfl)
theorem dX10_sets_2 : decode cX10_sets 2 = .ok (.getfield 196, 3) := dk_180 0 196 (dk_at dksX10_sets_0 2 rfl rfl)
theorem dX10_sets_5 : decode cX10_sets 5 = .ok (.putfield 214, 3) := dk_181 0 214 (dk_at dksX10_sets_0 5 rfl rfl)
theorem dX10_sets_8 : decode cX10_sets 8 = .ok (.aload_n 0, 1) := dk_42 (dk_at dksX10_sets_0 8 rfl rfl)
theorem dX10_sets_9 : decode cX10_sets 9 = .ok (.aload_n 0, 1) := dk_42 (dk_at dksX10_sets_0 9 rfl rfl)
theorem dX10_sets_10 : decode cX10_sets 10 = .ok (.getfield 199, 3) := dk_180 0 199 (dk_at dksX10_sets_0 10 rfl rfl)
theorem dX10_sets_13 : decode cX10_sets 13 = .ok (.putfield 217, 3) := dk_181 0 217 (dk_at dksX10_sets_0 13 rfl rfl)
theorem dX10_sets_16 : decode cX10_sets 16 = .ok (.aload_n 0, 1) := dk_42 (dk_at dksX10_sets_0 16 rfl rfl)
theorem dX10_sets_17 : decode cX10_sets 17 = .ok (.aload_n 0, 1) := dk_42 (dk_at dksX10_sets_0 17 rfl rfl)
theorem dX10_sets_18 : decode cX10_sets 18 = .ok (.getfield 205, 3) := dk_180 0 205 (dk_at dksX10_sets_0 18 rfl rfl)
theorem dX10_sets_21 : decode cX10_sets 21 = .ok (.putfield 220, 3) := dk_181 0 220 (dk_at dksX10_sets_0 21 rfl rfl)
theorem dX10_sets_24 : decode cX10_sets 24 = .ok (.aload_n 0, 1) := dk_42 (dk_at dksX10_sets_1 0 rfl rfl)
theorem dX10_sets_25 : decode cX10_sets 25 = .ok (.aload_n 0, 1) := dk_42 (dk_at dksX10_sets_1 1 rfl rfl)
theorem dX10_sets_26 : decode cX10_sets 26 = .ok (.getfield 208, 3) := dk_180 0 208 (dk_at dksX10_sets_1 2 rfl rfl)
theorem dX10_sets_29 : decode cX10_sets 29 = .ok (.putfield 223, 3) := dk_181 0 223 (dk_at dksX10_sets_1 5 rfl rfl)
theorem dX10_sets_32 : decode cX10_sets 32 = .ok (.aload_n 0, 1) := dk_42 (dk_at dksX10_sets_1 8 rfl rfl)
theorem dX10_sets_33 : decode cX10_sets 33 = .ok (.aload_n 0, 1) := dk_42 (dk_at dksX10_sets_1 9 rfl rfl)
theorem dX10_sets_34 : decode cX10_sets 34 = .ok (.getfield 211, 3) := dk_180 0 211 (dk_at dksX10_sets_1 10 rfl rfl)
theorem dX10_sets_37 : decode cX10_sets 37 = .ok (.putfield 226, 3) := dk_181 0 226 (dk_at dksX10_sets_1 13 rfl rfl)
theorem dX10_sets_40 : decode cX10_sets 40 = .ok (.aload_n 0, 1) := dk_42 (dk_at dksX10_sets_1 16 rfl rfl)
theorem dX10_sets_41 : decode cX10_sets 41 = .ok (.aload_n 0, 1) := dk_42 (dk_at dksX10_sets_1 17 rfl rfl)
theorem dX10_sets_42 : decode cX10_sets 42 = .ok (.getfield 23, 3) := dk_180 0 23 (dk_at dksX10_sets_1 18 rfl rfl)
theorem dX10_sets_45 : decode cX10_sets 45 = .ok (.aload_n 0, 1) := dk_42 (dk_at dksX10_sets_1 21 rfl rfl)
theorem dX10_sets_46 : decode cX10_sets 46 = .ok (.getfield 41, 3) := dk_180 0 41 (dk_at dksX10_sets_2 0 rfl rfl)
theorem dX10_sets_49 : decode cX10_sets 49 = .ok (.iconst 4, 1) := dk_7 (dk_at dksX10_sets_2 3 rfl rfl)
theorem dX10_sets_50 : decode cX10_sets 50 = .ok (.invokevirtual 229, 3) := dk_182 0 229 (dk_at dksX10_sets_2 4 rfl rfl)
theorem dX10_sets_53 : decode cX10_sets 53 = .ok (.aload_n 0, 1) := dk_42 (dk_at dksX10_sets_2 7 rfl rfl)
theorem dX10_sets_54 : decode cX10_sets 54 = .ok (.aload_n 0, 1) := dk_42 (dk_at dksX10_sets_2 8 rfl rfl)
theorem dX10_sets_55 : decode cX10_sets 55 = .ok (.getfield 26, 3) := dk_180 0 26 (dk_at dksX10_sets_2 9 rfl rfl)
theorem dX10_sets_58 : decode cX10_sets 58 = .ok (.aload_n 0, 1) := dk_42 (dk_at dksX10_sets_2 12 rfl rfl)
theorem dX10_sets_59 : decode cX10_sets 59 = .ok (.getfield 44, 3) := dk_180 0 44 (dk_at dksX10_sets_2 13 rfl rfl)
theorem dX10_sets_62 : decode cX10_sets 62 = .ok (.bipush 60, 2) := dk_16 60 (dk_at dksX10_sets_2 16 rfl rfl)
theorem dX10_sets_64 : decode cX10_sets 64 = .ok (.invokevirtual 229, 3) := dk_182 0 229 (dk_at dksX10_sets_2 18 rfl rfl)
theorem dX10_sets_67 : decode cX10_sets 67 = .ok (.aload_n 0, 1) := dk_42 (dk_at dksX10_sets_2 21 rfl rfl)
theorem dX10_sets_68 : decode cX10_sets 68 = .ok (.aload_n 0, 1) := dk_42 (dk_at dksX10_sets_2 22 rfl rfl)
theorem dX10_sets_69 : decode cX10_sets 69 = .ok (.getfield 29, 3) := dk_180 0 29 (dk_at dksX10_sets_3 0 rfl rfl)
theorem dX10_sets_72 : decode cX10_sets 72 = .ok (.aload_n 0, 1) := dk_42 (dk_at dksX10_sets_3 3 rfl rfl)
theorem dX10_sets_73 : decode cX10_sets 73 = .ok (.getfield 47, 3) := dk_180 0 47 (dk_at dksX10_sets_3 4 rfl rfl)
theorem dX10_sets_76 : decode cX10_sets 76 = .ok (.bipush 60, 2) := dk_16 60 (dk_at dksX10_sets_3 7 rfl rfl)
theorem dX10_sets_78 : decode cX10_sets 78 = .ok (.invokevirtual 229, 3) := dk_182 0 229 (dk_at dksX10_sets_3 9 rfl rfl)
theorem dX10_sets_81 : decode cX10_sets 81 = .ok (.aload_n 0, 1) := dk_42 (dk_at dksX10_sets_3 12 rfl rfl)
theorem dX10_sets_82 : decode cX10_sets 82 = .ok (.aload_n 0, 1) := dk_42 (dk_at dksX10_sets_3 13 rfl rfl)
theorem dX10_sets_83 : decode cX10_sets 83 = .ok (.getfield 32, 3) := dk_180 0 32 (dk_at dksX10_sets_3 14 rfl rfl)
theorem dX10_sets_86 : decode cX10_sets 86 = .ok (.aload_n 0, 1) := dk_42 (dk_at dksX10_sets_3 17 rfl rfl)
theorem dX10_sets_87 : decode cX10_sets 87 = .ok (.getfield 50, 3) := dk_180 0 50 (dk_at dksX10_sets_3 18 rfl rfl)
theorem dX10_sets_90 : decode cX10_sets 90 = .ok (.bipush 6, 2) := dk_16 6 (dk_at dksX10_sets_3 21 rfl rfl)
theorem dX10_sets_92 : decode cX10_sets 92 = .ok (.invokevirtual 229, 3) := dk_182 0 229 (dk_at dksX10_sets_4 0 rfl rfl)
theorem dX10_sets_95 : decode cX10_sets 95 = .ok (.aload_n 0, 1) := dk_42 (dk_at dksX10_sets_4 3 rfl rfl)
theorem dX10_sets_96 : decode cX10_sets 96 = .ok (.aload_n 0, 1) := dk_42 (dk_at dksX10_sets_4 4 rfl rfl)
theorem dX10_sets_97 : decode cX10_sets 97 = .ok (.getfield 35, 3) := dk_180 0 35 (dk_at dksX10_sets_4 5 rfl rfl)
theorem dX10_sets_100 : decode cX10_sets 100 = .ok (.aload_n 0, 1) := dk_42 (dk_at dksX10_sets_4 8 rfl rfl)
theorem dX10_sets_101 : decode cX10_sets 101 = .ok (.getfield 53, 3) := dk_180 0 53 (dk_at dksX10_sets_4 9 rfl rfl)
theorem dX10_sets_104 : decode cX10_sets 104 = .ok (.bipush 8, 2) := dk_16 8 (dk_at dksX10_sets_4 12 rfl rfl)
theorem dX10_sets_106 : decode cX10_sets 106 = .ok (.invokevirtual 229, 3) := dk_182 0 229 (dk_at dksX10_sets_4 14 rfl rfl)
theorem dX10_sets_109 : decode cX10_sets 109 = .ok (.aload_n 0, 1) := dk_42 (dk_at dksX10_sets_4 17 rfl rfl)
theorem dX10_sets_110 : decode cX10_sets 110 = .ok (.aload_n 0, 1) := dk_42 (dk_at dksX10_sets_4 18 rfl rfl)
theorem dX10_sets_111 : decode cX10_sets 111 = .ok (.getfield 38, 3) := dk_180 0 38 (dk_at dksX10_sets_4 19 rfl rfl)
theorem dX10_sets_114 : decode cX10_sets 114 = .ok (.aload_n 0, 1) := dk_42 (dk_at dksX10_sets_4 22 rfl rfl)
theorem dX10_sets_115 : decode cX10_sets 115 = .ok (.getfield 56, 3) := dk_180 0 56 (dk_at dksX10_sets_5 0 rfl rfl)
theorem dX10_sets_118 : decode cX10_sets 118 = .ok (.bipush 16, 2) := dk_16 16 (dk_at dksX10_sets_5 3 rfl rfl)
theorem dX10_sets_120 : decode cX10_sets 120 = .ok (.invokevirtual 229, 3) := dk_182 0 229 (dk_at dksX10_sets_5 5 rfl rfl)
theorem dX10_sets_123 : decode cX10_sets 123 = .ok (.aload_n 0, 1) := dk_42 (dk_at dksX10_sets_5 8 rfl rfl)
theorem dX10_sets_124 : decode cX10_sets 124 = .ok (.aload_n 0, 1) := dk_42 (dk_at dksX10_sets_5 9 rfl rfl)
theorem dX10_sets_125 : decode cX10_sets 125 = .ok (.getfield 66, 3) := dk_180 0 66 (dk_at dksX10_sets_5 10 rfl rfl)
theorem dX10_sets_128 : decode cX10_sets 128 = .ok (.aload_n 0, 1) := dk_42 (dk_at dksX10_sets_5 13 rfl rfl)
theorem dX10_sets_129 : decode cX10_sets 129 = .ok (.getfield 69, 3) := dk_180 0 69 (dk_at dksX10_sets_5 14 rfl rfl)
theorem dX10_sets_132 : decode cX10_sets 132 = .ok (.iconst 5, 1) := dk_8 (dk_at dksX10_sets_5 17 rfl rfl)
theorem dX10_sets_133 : decode cX10_sets 133 = .ok (.invokevirtual 229, 3) := dk_182 0 229 (dk_at dksX10_sets_5 18 rfl rfl)
theorem dX10_sets_136 : decode cX10_sets 136 = .ok (.iconst 0, 1) := dk_3 (dk_at dksX10_sets_5 21 rfl rfl)
theorem dX10_sets_137 : decode cX10_sets 137 = .ok (.istore_n 1, 1) := dk_60 (dk_at dksX10_sets_5 22 rfl rfl)
theorem dX10_sets_138 : decode cX10_sets 138 = .ok (.iload_n 1, 1) := dk_27 (dk_at dksX10_sets_5 23 rfl rfl)
theorem dX10_sets_139 : decode cX10_sets 139 = .ok (.sipush 241, 3) := dk_17 0 241 (dk_at dksX10_sets_6 0 rfl rfl)
theorem dX10_sets_142 : decode cX10_sets 142 = .ok (.if_icmp .ge 21, 3) := dk_162 0 21 (dk_at dksX10_sets_6 3 rfl rfl)
theorem dX10_sets_145 : decode cX10_sets 145 = .ok (.aload_n 0, 1) := dk_42 (dk_at dksX10_sets_6 6 rfl rfl)
theorem dX10_sets_146 : decode cX10_sets 146 = .ok (.getfield 63, 3) := dk_180 0 63 (dk_at dksX10_sets_6 7 rfl rfl)
theorem dX10_sets_149 : decode cX10_sets 149 = .ok (.iload_n 1, 1) := dk_27 (dk_at dksX10_sets_6 10 rfl rfl)
theorem dX10_sets_150 : decode cX10_sets 150 = .ok (.aload_n 0, 1) := dk_42 (dk_at dksX10_sets_6 11 rfl rfl)
theorem dX10_sets_151 : decode cX10_sets 151 = .ok (.getfield 59, 3) := dk_180 0 59 (dk_at dksX10_sets_6 12 rfl rfl)
theorem dX10_sets_154 : decode cX10_sets 154 = .ok (.iload_n 1, 1) := dk_27 (dk_at dksX10_sets_6 15 rfl rfl)
theorem dX10_sets_155 : decode cX10_sets 155 = .ok (.baload, 1) := dk_51 (dk_at dksX10_sets_6 16 rfl rfl)
theorem dX10_sets_156 : decode cX10_sets 156 = .ok (.bastore, 1) := dk_84 (dk_at dksX10_sets_6 17 rfl rfl)
theorem dX10_sets_157 : decode cX10_sets 157 = .ok (.iinc 1 1, 3) := dk_132 1 1 (dk_at dksX10_sets_6 18 rfl rfl)
theorem dX10_sets_160 : decode cX10_sets 160 = .ok (.goto (-22), 3) := dk_167 255 234 (dk_at dksX10_sets_6 21 rfl rfl)
theorem dX10_sets_163 : decode cX10_sets 163 = .ok (.aload_n 0, 1) := dk_42 (dk_at dksX10_sets_7 0 rfl rfl)
theorem dX10_sets_164 : decode cX10_sets 164 = .ok (.iconst 0, 1) := dk_3 (dk_at dksX10_sets_7 1 rfl rfl)
theorem dX10_sets_165 : decode cX10_sets 165 = .ok (.putfield 233, 3) := dk_181 0 233 (dk_at dksX10_sets_7 2 rfl rfl)
theorem dX10_sets_168 : decode cX10_sets 168 = .ok (.aload_n 0, 1) := dk_42 (dk_at dksX10_sets_7 5 rfl rfl)
theorem dX10_sets_169 : decode cX10_sets 169 = .ok (.iconst 0, 1) := dk_3 (dk_at dksX10_sets_7 6 rfl rfl)
theorem dX10_sets_170 : decode cX10_sets 170 = .ok (.putfield 236, 3) := dk_181 0 236 (dk_at dksX10_sets_7 7 rfl rfl)
theorem dX10_sets_173 : decode cX10_sets 173 = .ok (.iconst 0, 1) := dk_3 (dk_at dksX10_sets_7 10 rfl rfl)
theorem dX10_sets_174 : decode cX10_sets 174 = .ok (.istore_n 1, 1) := dk_60 (dk_at dksX10_sets_7 11 rfl rfl)
theorem dX10_sets_175 : decode cX10_sets 175 = .ok (.iload_n 1, 1) := dk_27 (dk_at dksX10_sets_7 12 rfl rfl)
theorem dX10_sets_176 : decode cX10_sets 176 = .ok (.iconst 3, 1) := dk_6 (dk_at dksX10_sets_7 13 rfl rfl)
theorem dX10_sets_177 : decode cX10_sets 177 = .ok (.if_icmp .ge 16, 3) := dk_162 0 16 (dk_at dksX10_sets_7 14 rfl rfl)
theorem dX10_sets_180 : decode cX10_sets 180 = .ok (.aload_n 0, 1) := dk_42 (dk_at dksX10_sets_7 17 rfl rfl)
theorem dX10_sets_181 : decode cX10_sets 181 = .ok (.getfield 99, 3) := dk_180 0 99 (dk_at dksX10_sets_7 18 rfl rfl)
theorem dX10_sets_184 : decode cX10_sets 184 = .ok (.iload_n 1, 1) := dk_27 (dk_at dksX10_sets_7 21 rfl rfl)
theorem dX10_sets_185 : decode cX10_sets 185 = .ok (.iconst (-1), 1) := dk_2 (dk_at dksX10_sets_7 22 rfl rfl)
theorem dX10_sets_186 : decode cX10_sets 186 = .ok (.iastore, 1) := dk_79 (dk_at dksX10_sets_7 23 rfl rfl)
theorem dX10_sets_187 : decode cX10_sets 187 = .ok (.iinc 1 1, 3) := dk_132 1 1 (dk_at dksX10_sets_8 0 rfl rfl)
theorem dX10_sets_190 : decode cX10_sets 190 = .ok (.goto (-15), 3) := dk_167 255 241 (dk_at dksX10_sets_8 3 rfl rfl)
theorem dX10_sets_193 : decode cX10_sets 193 = .ok (.aload_n 0, 1) := dk_42 (dk_at dksX10_sets_8 6 rfl rfl)
theorem dX10_sets_194 : decode cX10_sets 194 = .ok (.iconst 0, 1) := dk_3 (dk_at dksX10_sets_8 7 rfl rfl)
theorem dX10_sets_195 : decode cX10_sets 195 = .ok (.putfield 239, 3) := dk_181 0 239 (dk_at dksX10_sets_8 8 rfl rfl)
theorem dX10_sets_198 : decode cX10_sets 198 = .ok (.aload_n 0, 1) := dk_42 (dk_at dksX10_sets_8 11 rfl rfl)
theorem dX10_sets_199 : decode cX10_sets 199 = .ok (.iconst 0, 1) := dk_3 (dk_at dksX10_sets_8 12 rfl rfl)
theorem dX10_sets_200 : decode cX10_sets 200 = .ok (.putfield 242, 3) := dk_181 0 242 (dk_at dksX10_sets_8 13 rfl rfl)
theorem dX10_sets_203 : decode cX10_sets 203 = .ok (.aload_n 0, 1) := dk_42 (dk_at dksX10_sets_8 16 rfl rfl)
theorem dX10_sets_204 : decode cX10_sets 204 = .ok (.iconst 0, 1) := dk_3 (dk_at dksX10_sets_8 17 rfl rfl)
theorem dX10_sets_205 : decode cX10_sets 205 = .ok (.putfield 245, 3) := dk_181 0 245 (dk_at dksX10_sets_8 18 rfl rfl)
theorem dX10_sets_208 : decode cX10_sets 208 = .ok (.return_, 1) := dk_177 (dk_at dksX10_sets_8 21 rfl rfl)
abbrev cX10_copies : ByteArray := prog_19_method_21_code
def yX10_copies : MethodName := ⟨RX10, "copies", "([I[II)V"⟩
def dkwX10_copies_0 : List UInt8 := [3, 54, 4, 21, 4, 29, 162, 0, 17, 44, 21, 4, 43, 21, 4, 46, 79, 132, 4, 1, 167, 255, 239, 177]
abbrev dktX10_copies_0 : List UInt8 := dkwX10_copies_0 ++ []
theorem dksX10_copies_0 : cX10_copies.data.toList.drop 0 = dktX10_copies_0 := by decide +kernel
theorem dX10_copies_0 : decode cX10_copies 0 = .ok (.iconst 0, 1) := dk_3 (dk_at dksX10_copies_0 0 rfl rfl)
theorem dX10_copies_1 : decode cX10_copies 1 = .ok (.istore 4, 2) := dk_54 4 (dk_at dksX10_copies_0 1 rfl rfl)
theorem dX10_copies_3 : decode cX10_copies 3 = .ok (.iload 4, 2) := dk_21 4 (dk_at dksX10_copies_0 3 rfl rfl)
theorem dX10_copies_5 : decode cX10_copies 5 = .ok (.iload_n 3, 1) := dk_29 (dk_at dksX10_copies_0 5 rfl rfl)
theorem dX10_copies_6 : decode cX10_copies 6 = .ok (.if_icmp .ge 17, 3) := dk_162 0 17 (dk_at dksX10_copies_0 6 rfl rfl)
theorem dX10_copies_9 : decode cX10_copies 9 = .ok (.aload_n 2, 1) := dk_44 (dk_at dksX10_copies_0 9 rfl rfl)
theorem dX10_copies_10 : decode cX10_copies 10 = .ok (.iload 4, 2) := dk_21 4 (dk_at dksX10_copies_0 10 rfl rfl)
theorem dX10_copies_12 : decode cX10_copies 12 = .ok (.aload_n 1, 1) := dk_43 (dk_at dksX10_copies_0 12 rfl rfl)
theorem dX10_copies_13 : decode cX10_copies 13 = .ok (.iload 4, 2) := dk_21 4 (dk_at dksX10_copies_0 13 rfl rfl)
theorem dX10_copies_15 : decode cX10_copies 15 = .ok (.iaload, 1) := dk_46 (dk_at dksX10_copies_0 15 rfl rfl)
theorem dX10_copies_16 : decode cX10_copies 16 = .ok (.iastore, 1) := dk_79 (dk_at dksX10_copies_0 16 rfl rfl)
theorem dX10_copies_17 : decode cX10_copies 17 = .ok (.iinc 4 1, 3) := dk_132 4 1 (dk_at dksX10_copies_0 17 rfl rfl)
theorem dX10_copies_20 : decode cX10_copies 20 = .ok (.goto (-17), 3) := dk_167 255 239 (dk_at dksX10_copies_0 20 rfl rfl)
theorem dX10_copies_23 : decode cX10_copies 23 = .ok (.return_, 1) := dk_177 (dk_at dksX10_copies_0 23 rfl rfl)
abbrev cX10_feed : ByteArray := prog_19_method_5_code
def yX10_feed : MethodName := ⟨RX10, "feed", "(IIIII)I"⟩
def dkwX10_feed_5 : List UInt8 := [167, 255, 162, 42, 180, 0, 150, 172]
abbrev dktX10_feed_5 : List UInt8 := dkwX10_feed_5 ++ []
def dkwX10_feed_4 : List UInt8 := [112, 104, 100, 122, 17, 0, 255, 126, 79, 42, 89, 180, 0, 150, 4, 96, 181, 0, 150, 132, 6, 1]
abbrev dktX10_feed_4 : List UInt8 := dkwX10_feed_4 ++ dktX10_feed_5
def dkwX10_feed_3 : List UInt8 := [167, 0, 5, 21, 5, 54, 7, 42, 180, 0, 20, 42, 180, 0, 150, 21, 7, 16, 24, 16, 8, 21, 6, 7]
abbrev dktX10_feed_3 : List UInt8 := dkwX10_feed_3 ++ dktX10_feed_4
def dkwX10_feed_2 : List UInt8 := [28, 167, 0, 28, 21, 6, 16, 12, 162, 0, 7, 29, 167, 0, 17, 21, 6, 16, 16, 162, 0, 8, 21, 4]
abbrev dktX10_feed_2 : List UInt8 := dkwX10_feed_2 ++ dktX10_feed_3
def dkwX10_feed_1 : List UInt8 := [21, 6, 16, 20, 162, 0, 93, 21, 6, 7, 162, 0, 7, 27, 167, 0, 39, 21, 6, 16, 8, 162, 0, 7]
abbrev dktX10_feed_1 : List UInt8 := dkwX10_feed_1 ++ dktX10_feed_2
def dkwX10_feed_0 : List UInt8 := [42, 3, 181, 0, 3, 42, 180, 0, 150, 16, 20, 96, 17, 2, 88, 164, 0, 5, 2, 172, 3, 54, 6]
abbrev dktX10_feed_0 : List UInt8 := dkwX10_feed_0 ++ dktX10_feed_1
theorem dksX10_feed_0 : cX10_feed.data.toList.drop 0 = dktX10_feed_0 := by decide +kernel
theorem dksX10_feed_1 : cX10_feed.data.toList.drop 23 = dktX10_feed_1 := dk_seg dksX10_feed_0 23 rfl rfl
theorem dksX10_feed_2 : cX10_feed.data.toList.drop 47 = dktX10_feed_2 := dk_seg dksX10_feed_1 24 rfl rfl
theorem dksX10_feed_3 : cX10_feed.data.toList.drop 71 = dktX10_feed_3 := dk_seg dksX10_feed_2 24 rfl rfl
theorem dksX10_feed_4 : cX10_feed.data.toList.drop 95 = dktX10_feed_4 := dk_seg dksX10_feed_3 24 rfl rfl
theorem dksX10_feed_5 : cX10_feed.data.toList.drop 117 = dktX10_feed_5 := dk_seg dksX10_feed_4 22 rfl rfl
theorem dX10_feed_0 : decode cX10_feed 0 = .ok (.aload_n 0, 1) := dk_42 (dk_at dksX10_feed_0 0 rfl rfl)
theorem dX10_feed_1 : decode cX10_feed 1 = .ok (.iconst 0, 1) := dk_3 (dk_at dksX10_feed_0 1 rfl rfl)
theorem dX10_feed_2 : decode cX10_feed 2 = .ok (.putfield 3, 3) := dk_181 0 3 (dk_at dksX10_feed_0 2 rfl rfl)
theorem dX10_feed_5 : decode cX10_feed 5 = .ok (.aload_n 0, 1) := dk_42 (dk_at dksX10_feed_0 5 rfl rfl)
theorem dX10_feed_6 : decode cX10_feed 6 = .ok (.getfield 150, 3) := dk_180 0 150 (dk_at dksX10_feed_0 6 rfl rfl)
theorem dX10_feed_9 : decode cX10_feed 9 = .ok (.bipush 20, 2) := dk_16 20 (dk_at dksX10_feed_0 9 rfl rfl)
theorem dX10_feed_11 : decode cX10_feed 11 = .ok (.iadd, 1) := dk_96 (dk_at dksX10_feed_0 11 rfl rfl)
theorem dX10_feed_12 : decode cX10_feed 12 = .ok (.sipush 600, 3) := dk_17 2 88 (dk_at dksX10_feed_0 12 rfl rfl)
theorem dX10_feed_15 : decode cX10_feed 15 = .ok (.if_icmp .le 5, 3) := dk_164 0 5 (dk_at dksX10_feed_0 15 rfl rfl)
theorem dX10_feed_18 : decode cX10_feed 18 = .ok (.iconst (-1), 1) := dk_2 (dk_at dksX10_feed_0 18 rfl rfl)
theorem dX10_feed_19 : decode cX10_feed 19 = .ok (.ireturn, 1) := dk_172 (dk_at dksX10_feed_0 19 rfl rfl)
theorem dX10_feed_20 : decode cX10_feed 20 = .ok (.iconst 0, 1) := dk_3 (dk_at dksX10_feed_0 20 rfl rfl)
theorem dX10_feed_21 : decode cX10_feed 21 = .ok (.istore 6, 2) := dk_54 6 (dk_at dksX10_feed_0 21 rfl rfl)
theorem dX10_feed_23 : decode cX10_feed 23 = .ok (.iload 6, 2) := dk_21 6 (dk_at dksX10_feed_1 0 rfl rfl)
theorem dX10_feed_25 : decode cX10_feed 25 = .ok (.bipush 20, 2) := dk_16 20 (dk_at dksX10_feed_1 2 rfl rfl)
theorem dX10_feed_27 : decode cX10_feed 27 = .ok (.if_icmp .ge 93, 3) := dk_162 0 93 (dk_at dksX10_feed_1 4 rfl rfl)
theorem dX10_feed_30 : decode cX10_feed 30 = .ok (.iload 6, 2) := dk_21 6 (dk_at dksX10_feed_1 7 rfl rfl)
theorem dX10_feed_32 : decode cX10_feed 32 = .ok (.iconst 4, 1) := dk_7 (dk_at dksX10_feed_1 9 rfl rfl)
theorem dX10_feed_33 : decode cX10_feed 33 = .ok (.if_icmp .ge 7, 3) := dk_162 0 7 (dk_at dksX10_feed_1 10 rfl rfl)
theorem dX10_feed_36 : decode cX10_feed 36 = .ok (.iload_n 1, 1) := dk_27 (dk_at dksX10_feed_1 13 rfl rfl)
theorem dX10_feed_37 : decode cX10_feed 37 = .ok (.goto 39, 3) := dk_167 0 39 (dk_at dksX10_feed_1 14 rfl rfl)
theorem dX10_feed_40 : decode cX10_feed 40 = .ok (.iload 6, 2) := dk_21 6 (dk_at dksX10_feed_1 17 rfl rfl)
theorem dX10_feed_42 : decode cX10_feed 42 = .ok (.bipush 8, 2) := dk_16 8 (dk_at dksX10_feed_1 19 rfl rfl)
theorem dX10_feed_44 : decode cX10_feed 44 = .ok (.if_icmp .ge 7, 3) := dk_162 0 7 (dk_at dksX10_feed_1 21 rfl rfl)
theorem dX10_feed_47 : decode cX10_feed 47 = .ok (.iload_n 2, 1) := dk_28 (dk_at dksX10_feed_2 0 rfl rfl)
theorem dX10_feed_48 : decode cX10_feed 48 = .ok (.goto 28, 3) := dk_167 0 28 (dk_at dksX10_feed_2 1 rfl rfl)
theorem dX10_feed_51 : decode cX10_feed 51 = .ok (.iload 6, 2) := dk_21 6 (dk_at dksX10_feed_2 4 rfl rfl)
theorem dX10_feed_53 : decode cX10_feed 53 = .ok (.bipush 12, 2) := dk_16 12 (dk_at dksX10_feed_2 6 rfl rfl)
theorem dX10_feed_55 : decode cX10_feed 55 = .ok (.if_icmp .ge 7, 3) := dk_162 0 7 (dk_at dksX10_feed_2 8 rfl rfl)
theorem dX10_feed_58 : decode cX10_feed 58 = .ok (.iload_n 3, 1) := dk_29 (dk_at dksX10_feed_2 11 rfl rfl)
theorem dX10_feed_59 : decode cX10_feed 59 = .ok (.goto 17, 3) := dk_167 0 17 (dk_at dksX10_feed_2 12 rfl rfl)
theorem dX10_feed_62 : decode cX10_feed 62 = .ok (.iload 6, 2) := dk_21 6 (dk_at dksX10_feed_2 15 rfl rfl)
theorem dX10_feed_64 : decode cX10_feed 64 = .ok (.bipush 16, 2) := dk_16 16 (dk_at dksX10_feed_2 17 rfl rfl)
theorem dX10_feed_66 : decode cX10_feed 66 = .ok (.if_icmp .ge 8, 3) := dk_162 0 8 (dk_at dksX10_feed_2 19 rfl rfl)
theorem dX10_feed_69 : decode cX10_feed 69 = .ok (.iload 4, 2) := dk_21 4 (dk_at dksX10_feed_2 22 rfl rfl)
theorem dX10_feed_71 : decode cX10_feed 71 = .ok (.goto 5, 3) := dk_167 0 5 (dk_at dksX10_feed_3 0 rfl rfl)
theorem dX10_feed_74 : decode cX10_feed 74 = .ok (.iload 5, 2) := dk_21 5 (dk_at dksX10_feed_3 3 rfl rfl)
theorem dX10_feed_76 : decode cX10_feed 76 = .ok (.istore 7, 2) := dk_54 7 (dk_at dksX10_feed_3 5 rfl rfl)
theorem dX10_feed_78 : decode cX10_feed 78 = .ok (.aload_n 0, 1) := dk_42 (dk_at dksX10_feed_3 7 rfl rfl)
theorem dX10_feed_79 : decode cX10_feed 79 = .ok (.getfield 20, 3) := dk_180 0 20 (dk_at dksX10_feed_3 8 rfl rfl)
theorem dX10_feed_82 : decode cX10_feed 82 = .ok (.aload_n 0, 1) := dk_42 (dk_at dksX10_feed_3 11 rfl rfl)
theorem dX10_feed_83 : decode cX10_feed 83 = .ok (.getfield 150, 3) := dk_180 0 150 (dk_at dksX10_feed_3 12 rfl rfl)
theorem dX10_feed_86 : decode cX10_feed 86 = .ok (.iload 7, 2) := dk_21 7 (dk_at dksX10_feed_3 15 rfl rfl)
theorem dX10_feed_88 : decode cX10_feed 88 = .ok (.bipush 24, 2) := dk_16 24 (dk_at dksX10_feed_3 17 rfl rfl)
theorem dX10_feed_90 : decode cX10_feed 90 = .ok (.bipush 8, 2) := dk_16 8 (dk_at dksX10_feed_3 19 rfl rfl)
theorem dX10_feed_92 : decode cX10_feed 92 = .ok (.iload 6, 2) := dk_21 6 (dk_at dksX10_feed_3 21 rfl rfl)
theorem dX10_feed_94 : decode cX10_feed 94 = .ok (.iconst 4, 1) := dk_7 (dk_at dksX10_feed_3 23 rfl rfl)
theorem dX10_feed_95 : decode cX10_feed 95 = .ok (.irem, 1) := dk_112 (dk_at dksX10_feed_4 0 rfl rfl)
theorem dX10_feed_96 : decode cX10_feed 96 = .ok (.imul, 1) := dk_104 (dk_at dksX10_feed_4 1 rfl rfl)
theorem dX10_feed_97 : decode cX10_feed 97 = .ok (.isub, 1) := dk_100 (dk_at dksX10_feed_4 2 rfl rfl)
theorem dX10_feed_98 : decode cX10_feed 98 = .ok (.ishr, 1) := dk_122 (dk_at dksX10_feed_4 3 rfl rfl)
theorem dX10_feed_99 : decode cX10_feed 99 = .ok (.sipush 255, 3) := dk_17 0 255 (dk_at dksX10_feed_4 4 rfl rfl)
theorem dX10_feed_102 : decode cX10_feed 102 = .ok (.iand, 1) := dk_126 (dk_at dksX10_feed_4 7 rfl rfl)
theorem dX10_feed_103 : decode cX10_feed 103 = .ok (.iastore, 1) := dk_79 (dk_at dksX10_feed_4 8 rfl rfl)
theorem dX10_feed_104 : decode cX10_feed 104 = .ok (.aload_n 0, 1) := dk_42 (dk_at dksX10_feed_4 9 rfl rfl)
theorem dX10_feed_105 : decode cX10_feed 105 = .ok (.dup, 1) := dk_89 (dk_at dksX10_feed_4 10 rfl rfl)
theorem dX10_feed_106 : decode cX10_feed 106 = .ok (.getfield 150, 3) := dk_180 0 150 (dk_at dksX10_feed_4 11 rfl rfl)
theorem dX10_feed_109 : decode cX10_feed 109 = .ok (.iconst 1, 1) := dk_4 (dk_at dksX10_feed_4 14 rfl rfl)
theorem dX10_feed_110 : decode cX10_feed 110 = .ok (.iadd, 1) := dk_96 (dk_at dksX10_feed_4 15 rfl rfl)
theorem dX10_feed_111 : decode cX10_feed 111 = .ok (.putfield 150, 3) := dk_181 0 150 (dk_at dksX10_feed_4 16 rfl rfl)
theorem dX10_feed_114 : decode cX10_feed 114 = .ok (.iinc 6 1, 3) := dk_132 6 1 (dk_at dksX10_feed_4 19 rfl rfl)
theorem dX10_feed_117 : decode cX10_feed 117 = .ok (.goto (-94), 3) := dk_167 255 162 (dk_at dksX10_feed_5 0 rfl rfl)
theorem dX10_feed_120 : decode cX10_feed 120 = .ok (.aload_n 0, 1) := dk_42 (dk_at dksX10_feed_5 3 rfl rfl)
theorem dX10_feed_121 : decode cX10_feed 121 = .ok (.getfield 150, 3) := dk_180 0 150 (dk_at dksX10_feed_5 4 rfl rfl)
theorem dX10_feed_124 : decode cX10_feed 124 = .ok (.ireturn, 1) := dk_172 (dk_at dksX10_feed_5 7 rfl rfl)
abbrev cX10_fault : ByteArray := prog_19_method_19_code
def yX10_fault : MethodName := ⟨RX10, "fault", "()I"⟩
def dkwX10_fault_0 : List UInt8 := [42, 3, 181, 0, 3, 42, 180, 0, 17, 172]
abbrev dktX10_fault_0 : List UInt8 := dkwX10_fault_0 ++ []
theorem dksX10_fault_0 : cX10_fault.data.toList.drop 0 = dktX10_fault_0 := by decide +kernel
theorem dX10_fault_0 : decode cX10_fault 0 = .ok (.aload_n 0, 1) := dk_42 (dk_at dksX10_fault_0 0 rfl rfl)
theorem dX10_fault_1 : decode cX10_fault 1 = .ok (.iconst 0, 1) := dk_3 (dk_at dksX10_fault_0 1 rfl rfl)
theorem dX10_fault_2 : decode cX10_fault 2 = .ok (.putfield 3, 3) := dk_181 0 3 (dk_at dksX10_fault_0 2 rfl rfl)
theorem dX10_fault_5 : decode cX10_fault 5 = .ok (.aload_n 0, 1) := dk_42 (dk_at dksX10_fault_0 5 rfl rfl)
theorem dX10_fault_6 : decode cX10_fault 6 = .ok (.getfield 17, 3) := dk_180 0 17 (dk_at dksX10_fault_0 6 rfl rfl)
theorem dX10_fault_9 : decode cX10_fault 9 = .ok (.ireturn, 1) := dk_172 (dk_at dksX10_fault_0 9 rfl rfl)
abbrev cX10_road : ByteArray := prog_19_method_28_code
def yX10_road : MethodName := ⟨RX10, "road", "(I)I"⟩
def dkwX10_road_7 : List UInt8 := [42, 180, 0, 153, 2, 160, 0, 7, 42, 182, 0, 147, 29, 172]
abbrev dktX10_road_7 : List UInt8 := dkwX10_road_7 ++ []
def dkwX10_road_6 : List UInt8 := [182, 1, 47, 42, 16, 59, 182, 1, 50, 132, 2, 1, 167, 255, 145, 42, 42, 180, 0, 199, 182, 1, 53, 62]
abbrev dktX10_road_6 : List UInt8 := dkwX10_road_6 ++ dktX10_road_7
def dkwX10_road_5 : List UInt8 := [167, 0, 39, 42, 182, 1, 41, 29, 184, 1, 32, 153, 0, 11, 42, 29, 182, 1, 44, 167, 0, 8, 42, 29]
abbrev dktX10_road_5 : List UInt8 := dkwX10_road_5 ++ dktX10_road_6
def dkwX10_road_4 : List UInt8 := [42, 29, 182, 1, 38, 153, 0, 12, 42, 6, 42, 180, 0, 159, 182, 0, 189, 42, 182, 0, 182, 154, 0, 6]
abbrev dktX10_road_4 : List UInt8 := dkwX10_road_4 ++ dktX10_road_5
def dkwX10_road_3 : List UInt8 := [184, 1, 35, 154, 0, 15, 42, 4, 42, 180, 0, 159, 182, 0, 189, 167, 0, 26, 28, 16, 60, 159, 0, 11]
abbrev dktX10_road_3 : List UInt8 := dkwX10_road_3 ++ dktX10_road_4
def dkwX10_road_2 : List UInt8 := [153, 0, 110, 42, 182, 1, 26, 153, 0, 103, 42, 182, 1, 29, 62, 29, 184, 1, 32, 154, 0, 22, 29]
abbrev dktX10_road_2 : List UInt8 := dkwX10_road_2 ++ dktX10_road_3
def dkwX10_road_1 : List UInt8 := [4, 182, 1, 19, 154, 0, 5, 3, 172, 42, 27, 182, 1, 23, 42, 182, 0, 144, 3, 61, 42, 182, 0, 182]
abbrev dktX10_road_1 : List UInt8 := dkwX10_road_1 ++ dktX10_road_2
def dkwX10_road_0 : List UInt8 := [42, 3, 181, 0, 3, 42, 27, 155, 0, 15, 27, 42, 180, 0, 150, 163, 0, 7, 4, 167, 0, 4, 3, 4]
abbrev dktX10_road_0 : List UInt8 := dkwX10_road_0 ++ dktX10_road_1
theorem dksX10_road_0 : cX10_road.data.toList.drop 0 = dktX10_road_0 := by decide +kernel
theorem dksX10_road_1 : cX10_road.data.toList.drop 24 = dktX10_road_1 := dk_seg dksX10_road_0 24 rfl rfl
theorem dksX10_road_2 : cX10_road.data.toList.drop 48 = dktX10_road_2 := dk_seg dksX10_road_1 24 rfl rfl
theorem dksX10_road_3 : cX10_road.data.toList.drop 71 = dktX10_road_3 := dk_seg dksX10_road_2 23 rfl rfl
theorem dksX10_road_4 : cX10_road.data.toList.drop 95 = dktX10_road_4 := dk_seg dksX10_road_3 24 rfl rfl
theorem dksX10_road_5 : cX10_road.data.toList.drop 119 = dktX10_road_5 := dk_seg dksX10_road_4 24 rfl rfl
theorem dksX10_road_6 : cX10_road.data.toList.drop 143 = dktX10_road_6 := dk_seg dksX10_road_5 24 rfl rfl
theorem dksX10_road_7 : cX10_road.data.toList.drop 167 = dktX10_road_7 := dk_seg dksX10_road_6 24 rfl rfl
theorem dX10_road_0 : decode cX10_road 0 = .ok (.aload_n 0, 1) := dk_42 (dk_at dksX10_road_0 0 rfl rfl)
theorem dX10_road_1 : decode cX10_road 1 = .ok (.iconst 0, 1) := dk_3 (dk_at dksX10_road_0 1 rfl rfl)
theorem dX10_road_2 : decode cX10_road 2 = .ok (.putfield 3, 3) := dk_181 0 3 (dk_at dksX10_road_0 2 rfl rfl)
theorem dX10_road_5 : decode cX10_road 5 = .ok (.aload_n 0, 1) := dk_42 (dk_at dksX10_road_0 5 rfl rfl)
theorem dX10_road_6 : decode cX10_road 6 = .ok (.iload_n 1, 1) := dk_27 (dk_at dksX10_road_0 6 rfl rfl)
theorem dX10_road_7 : decode cX10_road 7 = .ok (.ifCond .lt 15, 3) := dk_155 0 15 (dk_at dksX10_road_0 7 rfl rfl)
theorem dX10_road_10 : decode cX10_road 10 = .ok (.iload_n 1, 1) := dk_27 (dk_at dksX10_road_0 10 rfl rfl)
theorem dX10_road_11 : decode cX10_road 11 = .ok (.aload_n 0, 1) := dk_42 (dk_at dksX10_road_0 11 rfl rfl)
theorem dX10_road_12 : decode cX10_road 12 = .ok (.getfield 150, 3) := dk_180 0 150 (dk_at dksX10_road_0 12 rfl rfl)
theorem dX10_road_15 : decode cX10_road 15 = .ok (.if_icmp .gt 7, 3) := dk_163 0 7 (dk_at dksX10_road_0 15 rfl rfl)
theorem dX10_road_18 : decode cX10_road 18 = .ok (.iconst 1, 1) := dk_4 (dk_at dksX10_road_0 18 rfl rfl)
theorem dX10_road_19 : decode cX10_road 19 = .ok (.goto 4, 3) := dk_167 0 4 (dk_at dksX10_road_0 19 rfl rfl)
theorem dX10_road_22 : decode cX10_road 22 = .ok (.iconst 0, 1) := dk_3 (dk_at dksX10_road_0 22 rfl rfl)
theorem dX10_road_23 : decode cX10_road 23 = .ok (.iconst 1, 1) := dk_4 (dk_at dksX10_road_0 23 rfl rfl)
theorem dX10_road_24 : decode cX10_road 24 = .ok (.iconst 1, 1) := dk_4 (dk_at dksX10_road_1 0 rfl rfl)
theorem dX10_road_25 : decode cX10_road 25 = .ok (.invokevirtual 275, 3) := dk_182 1 19 (dk_at dksX10_road_1 1 rfl rfl)
theorem dX10_road_28 : decode cX10_road 28 = .ok (.ifCond .ne 5, 3) := dk_154 0 5 (dk_at dksX10_road_1 4 rfl rfl)
theorem dX10_road_31 : decode cX10_road 31 = .ok (.iconst 0, 1) := dk_3 (dk_at dksX10_road_1 7 rfl rfl)
theorem dX10_road_32 : decode cX10_road 32 = .ok (.ireturn, 1) := dk_172 (dk_at dksX10_road_1 8 rfl rfl)
theorem dX10_road_33 : decode cX10_road 33 = .ok (.aload_n 0, 1) := dk_42 (dk_at dksX10_road_1 9 rfl rfl)
theorem dX10_road_34 : decode cX10_road 34 = .ok (.iload_n 1, 1) := dk_27 (dk_at dksX10_road_1 10 rfl rfl)
theorem dX10_road_35 : decode cX10_road 35 = .ok (.invokevirtual 279, 3) := dk_182 1 23 (dk_at dksX10_road_1 11 rfl rfl)
theorem dX10_road_38 : decode cX10_road 38 = .ok (.aload_n 0, 1) := dk_42 (dk_at dksX10_road_1 14 rfl rfl)
theorem dX10_road_39 : decode cX10_road 39 = .ok (.invokevirtual 144, 3) := dk_182 0 144 (dk_at dksX10_road_1 15 rfl rfl)
theorem dX10_road_42 : decode cX10_road 42 = .ok (.iconst 0, 1) := dk_3 (dk_at dksX10_road_1 18 rfl rfl)
theorem dX10_road_43 : decode cX10_road 43 = .ok (.istore_n 2, 1) := dk_61 (dk_at dksX10_road_1 19 rfl rfl)
theorem dX10_road_44 : decode cX10_road 44 = .ok (.aload_n 0, 1) := dk_42 (dk_at dksX10_road_1 20 rfl rfl)
theorem dX10_road_45 : decode cX10_road 45 = .ok (.invokevirtual 182, 3) := dk_182 0 182 (dk_at dksX10_road_1 21 rfl rfl)
theorem dX10_road_48 : decode cX10_road 48 = .ok (.ifCond .eq 110, 3) := dk_153 0 110 (dk_at dksX10_road_2 0 rfl rfl)
theorem dX10_road_51 : decode cX10_road 51 = .ok (.aload_n 0, 1) := dk_42 (dk_at dksX10_road_2 3 rfl rfl)
theorem dX10_road_52 : decode cX10_road 52 = .ok (.invokevirtual 282, 3) := dk_182 1 26 (dk_at dksX10_road_2 4 rfl rfl)
theorem dX10_road_55 : decode cX10_road 55 = .ok (.ifCond .eq 103, 3) := dk_153 0 103 (dk_at dksX10_road_2 7 rfl rfl)
theorem dX10_road_58 : decode cX10_road 58 = .ok (.aload_n 0, 1) := dk_42 (dk_at dksX10_road_2 10 rfl rfl)
theorem dX10_road_59 : decode cX10_road 59 = .ok (.invokevirtual 285, 3) := dk_182 1 29 (dk_at dksX10_road_2 11 rfl rfl)
theorem dX10_road_62 : decode cX10_road 62 = .ok (.istore_n 3, 1) := dk_62 (dk_at dksX10_road_2 14 rfl rfl)
theorem dX10_road_63 : decode cX10_road 63 = .ok (.iload_n 3, 1) := dk_29 (dk_at dksX10_road_2 15 rfl rfl)
theorem dX10_road_64 : decode cX10_road 64 = .ok (.invokestatic 288, 3) := dk_184 1 32 (dk_at dksX10_road_2 16 rfl rfl)
theorem dX10_road_67 : decode cX10_road 67 = .ok (.ifCond .ne 22, 3) := dk_154 0 22 (dk_at dksX10_road_2 19 rfl rfl)
theorem dX10_road_70 : decode cX10_road 70 = .ok (.iload_n 3, 1) := dk_29 (dk_at dksX10_road_2 22 rfl rfl)
theorem dX10_road_71 : decode cX10_road 71 = .ok (.invokestatic 291, 3) := dk_184 1 35 (dk_at dksX10_road_3 0 rfl rfl)
theorem dX10_road_74 : decode cX10_road 74 = .ok (.ifCond .ne 15, 3) := dk_154 0 15 (dk_at dksX10_road_3 3 rfl rfl)
theorem dX10_road_77 : decode cX10_road 77 = .ok (.aload_n 0, 1) := dk_42 (dk_at dksX10_road_3 6 rfl rfl)
theorem dX10_road_78 : decode cX10_road 78 = .ok (.iconst 1, 1) := dk_4 (dk_at dksX10_road_3 7 rfl rfl)
theorem dX10_road_79 : decode cX10_road 79 = .ok (.aload_n 0, 1) := dk_42 (dk_at dksX10_road_3 8 rfl rfl)
theorem dX10_road_80 : decode cX10_road 80 = .ok (.getfield 159, 3) := dk_180 0 159 (dk_at dksX10_road_3 9 rfl rfl)
theorem dX10_road_83 : decode cX10_road 83 = .ok (.invokevirtual 189, 3) := dk_182 0 189 (dk_at dksX10_road_3 12 rfl rfl)
theorem dX10_road_86 : decode cX10_road 86 = .ok (.goto 26, 3) := dk_167 0 26 (dk_at dksX10_road_3 15 rfl rfl)
theorem dX10_road_89 : decode cX10_road 89 = .ok (.iload_n 2, 1) := dk_28 (dk_at dksX10_road_3 18 rfl rfl)
theorem dX10_road_90 : decode cX10_road 90 = .ok (.bipush 60, 2) := dk_16 60 (dk_at dksX10_road_3 19 rfl rfl)
theorem dX10_road_92 : decode cX10_road 92 = .ok (.if_icmp .eq 11, 3) := dk_159 0 11 (dk_at dksX10_road_3 21 rfl rfl)
theorem dX10_road_95 : decode cX10_road 95 = .ok (.aload_n 0, 1) := dk_42 (dk_at dksX10_road_4 0 rfl rfl)
theorem dX10_road_96 : decode cX10_road 96 = .ok (.iload_n 3, 1) := dk_29 (dk_at dksX10_road_4 1 rfl rfl)
theorem dX10_road_97 : decode cX10_road 97 = .ok (.invokevirtual 294, 3) := dk_182 1 38 (dk_at dksX10_road_4 2 rfl rfl)
theorem dX10_road_100 : decode cX10_road 100 = .ok (.ifCond .eq 12, 3) := dk_153 0 12 (dk_at dksX10_road_4 5 rfl rfl)
theorem dX10_road_103 : decode cX10_road 103 = .ok (.aload_n 0, 1) := dk_42 (dk_at dksX10_road_4 8 rfl rfl)
theorem dX10_road_104 : decode cX10_road 104 = .ok (.iconst 3, 1) := dk_6 (dk_at dksX10_road_4 9 rfl rfl)
theorem dX10_road_105 : decode cX10_road 105 = .ok (.aload_n 0, 1) := dk_42 (dk_at dksX10_road_4 10 rfl rfl)
theorem dX10_road_106 : decode cX10_road 106 = .ok (.getfield 159, 3) := dk_180 0 159 (dk_at dksX10_road_4 11 rfl rfl)
theorem dX10_road_109 : decode cX10_road 109 = .ok (.invokevirtual 189, 3) := dk_182 0 189 (dk_at dksX10_road_4 14 rfl rfl)
theorem dX10_road_112 : decode cX10_road 112 = .ok (.aload_n 0, 1) := dk_42 (dk_at dksX10_road_4 17 rfl rfl)
theorem dX10_road_113 : decode cX10_road 113 = .ok (.invokevirtual 182, 3) := dk_182 0 182 (dk_at dksX10_road_4 18 rfl rfl)
theorem dX10_road_116 : decode cX10_road 116 = .ok (.ifCond .ne 6, 3) := dk_154 0 6 (dk_at dksX10_road_4 21 rfl rfl)
theorem dX10_road_119 : decode cX10_road 119 = .ok (.goto 39, 3) := dk_167 0 39 (dk_at dksX10_road_5 0 rfl rfl)
theorem dX10_road_122 : decode cX10_road 122 = .ok (.aload_n 0, 1) := dk_42 (dk_at dksX10_road_5 3 rfl rfl)
theorem dX10_road_123 : decode cX10_road 123 = .ok (.invokevirtual 297, 3) := dk_182 1 41 (dk_at dksX10_road_5 4 rfl rfl)
theorem dX10_road_126 : decode cX10_road 126 = .ok (.iload_n 3, 1) := dk_29 (dk_at dksX10_road_5 7 rfl rfl)
theorem dX10_road_127 : decode cX10_road 127 = .ok (.invokestatic 288, 3) := dk_184 1 32 (dk_at dksX10_road_5 8 rfl rfl)
theorem dX10_road_130 : decode cX10_road 130 = .ok (.ifCond .eq 11, 3) := dk_153 0 11 (dk_at dksX10_road_5 11 rfl rfl)
theorem dX10_road_133 : decode cX10_road 133 = .ok (.aload_n 0, 1) := dk_42 (dk_at dksX10_road_5 14 rfl rfl)
theorem dX10_road_134 : decode cX10_road 134 = .ok (.iload_n 3, 1) := dk_29 (dk_at dksX10_road_5 15 rfl rfl)
theorem dX10_road_135 : decode cX10_road 135 = .ok (.invokevirtual 300, 3) := dk_182 1 44 (dk_at dksX10_road_5 16 rfl rfl)
theorem dX10_road_138 : decode cX10_road 138 = .ok (.goto 8, 3) := dk_167 0 8 (dk_at dksX10_road_5 19 rfl rfl)
theorem dX10_road_141 : decode cX10_road 141 = .ok (.aload_n 0, 1) := dk_42 (dk_at dksX10_road_5 22 rfl rfl)
theorem dX10_road_142 : decode cX10_road 142 = .ok (.iload_n 3, 1) := dk_29 (dk_at dksX10_road_5 23 rfl rfl)
theorem dX10_road_143 : decode cX10_road 143 = .ok (.invokevirtual 303, 3) := dk_182 1 47 (dk_at dksX10_road_6 0 rfl rfl)
theorem dX10_road_146 : decode cX10_road 146 = .ok (.aload_n 0, 1) := dk_42 (dk_at dksX10_road_6 3 rfl rfl)
theorem dX10_road_147 : decode cX10_road 147 = .ok (.bipush 59, 2) := dk_16 59 (dk_at dksX10_road_6 4 rfl rfl)
theorem dX10_road_149 : decode cX10_road 149 = .ok (.invokevirtual 306, 3) := dk_182 1 50 (dk_at dksX10_road_6 6 rfl rfl)
theorem dX10_road_152 : decode cX10_road 152 = .ok (.iinc 2 1, 3) := dk_132 2 1 (dk_at dksX10_road_6 9 rfl rfl)
theorem dX10_road_155 : decode cX10_road 155 = .ok (.goto (-111), 3) := dk_167 255 145 (dk_at dksX10_road_6 12 rfl rfl)
theorem dX10_road_158 : decode cX10_road 158 = .ok (.aload_n 0, 1) := dk_42 (dk_at dksX10_road_6 15 rfl rfl)
theorem dX10_road_159 : decode cX10_road 159 = .ok (.aload_n 0, 1) := dk_42 (dk_at dksX10_road_6 16 rfl rfl)
theorem dX10_road_160 : decode cX10_road 160 = .ok (.getfield 199, 3) := dk_180 0 199 (dk_at dksX10_road_6 17 rfl rfl)
theorem dX10_road_163 : decode cX10_road 163 = .ok (.invokevirtual 309, 3) := dk_182 1 53 (dk_at dksX10_road_6 20 rfl rfl)
theorem dX10_road_166 : decode cX10_road 166 = .ok (.istore_n 3, 1) := dk_62 (dk_at dksX10_road_6 23 rfl rfl)
theorem dX10_road_167 : decode cX10_road 167 = .ok (.aload_n 0, 1) := dk_42 (dk_at dksX10_road_7 0 rfl rfl)
theorem dX10_road_168 : decode cX10_road 168 = .ok (.getfield 153, 3) := dk_180 0 153 (dk_at dksX10_road_7 1 rfl rfl)
theorem dX10_road_171 : decode cX10_road 171 = .ok (.iconst (-1), 1) := dk_2 (dk_at dksX10_road_7 4 rfl rfl)
theorem dX10_road_172 : decode cX10_road 172 = .ok (.if_icmp .ne 7, 3) := dk_160 0 7 (dk_at dksX10_road_7 5 rfl rfl)
theorem dX10_road_175 : decode cX10_road 175 = .ok (.aload_n 0, 1) := dk_42 (dk_at dksX10_road_7 8 rfl rfl)
theorem dX10_road_176 : decode cX10_road 176 = .ok (.invokevirtual 147, 3) := dk_182 0 147 (dk_at dksX10_road_7 9 rfl rfl)
theorem dX10_road_179 : decode cX10_road 179 = .ok (.iload_n 3, 1) := dk_29 (dk_at dksX10_road_7 12 rfl rfl)
theorem dX10_road_180 : decode cX10_road 180 = .ok (.ireturn, 1) := dk_172 (dk_at dksX10_road_7 13 rfl rfl)
abbrev cX10_may : ByteArray := prog_19_method_2_code
def yX10_may : MethodName := ⟨RX10, "may", "(ZII)Z"⟩
def dkwX10_may_1 : List UInt8 := [96, 79, 42, 180, 0, 3, 154, 0, 7, 4, 167, 0, 4, 3, 172]
abbrev dktX10_may_1 : List UInt8 := dkwX10_may_1 ++ []
def dkwX10_may_0 : List UInt8 := [27, 154, 0, 25, 42, 180, 0, 3, 154, 0, 18, 42, 28, 181, 0, 3, 42, 180, 0, 7, 29, 92, 46, 4]
abbrev dktX10_may_0 : List UInt8 := dkwX10_may_0 ++ dktX10_may_1
theorem dksX10_may_0 : cX10_may.data.toList.drop 0 = dktX10_may_0 := by decide +kernel
theorem dksX10_may_1 : cX10_may.data.toList.drop 24 = dktX10_may_1 := dk_seg dksX10_may_0 24 rfl rfl
theorem dX10_may_0 : decode cX10_may 0 = .ok (.iload_n 1, 1) := dk_27 (dk_at dksX10_may_0 0 rfl rfl)
theorem dX10_may_1 : decode cX10_may 1 = .ok (.ifCond .ne 25, 3) := dk_154 0 25 (dk_at dksX10_may_0 1 rfl rfl)
theorem dX10_may_4 : decode cX10_may 4 = .ok (.aload_n 0, 1) := dk_42 (dk_at dksX10_may_0 4 rfl rfl)
theorem dX10_may_5 : decode cX10_may 5 = .ok (.getfield 3, 3) := dk_180 0 3 (dk_at dksX10_may_0 5 rfl rfl)
theorem dX10_may_8 : decode cX10_may 8 = .ok (.ifCond .ne 18, 3) := dk_154 0 18 (dk_at dksX10_may_0 8 rfl rfl)
theorem dX10_may_11 : decode cX10_may 11 = .ok (.aload_n 0, 1) := dk_42 (dk_at dksX10_may_0 11 rfl rfl)
theorem dX10_may_12 : decode cX10_may 12 = .ok (.iload_n 2, 1) := dk_28 (dk_at dksX10_may_0 12 rfl rfl)
theorem dX10_may_13 : decode cX10_may 13 = .ok (.putfield 3, 3) := dk_181 0 3 (dk_at dksX10_may_0 13 rfl rfl)
theorem dX10_may_16 : decode cX10_may 16 = .ok (.aload_n 0, 1) := dk_42 (dk_at dksX10_may_0 16 rfl rfl)
theorem dX10_may_17 : decode cX10_may 17 = .ok (.getfield 7, 3) := dk_180 0 7 (dk_at dksX10_may_0 17 rfl rfl)
theorem dX10_may_20 : decode cX10_may 20 = .ok (.iload_n 3, 1) := dk_29 (dk_at dksX10_may_0 20 rfl rfl)
theorem dX10_may_21 : decode cX10_may 21 = .ok (.dup2, 1) := dk_92 (dk_at dksX10_may_0 21 rfl rfl)
theorem dX10_may_22 : decode cX10_may 22 = .ok (.iaload, 1) := dk_46 (dk_at dksX10_may_0 22 rfl rfl)
theorem dX10_may_23 : decode cX10_may 23 = .ok (.iconst 1, 1) := dk_4 (dk_at dksX10_may_0 23 rfl rfl)
theorem dX10_may_24 : decode cX10_may 24 = .ok (.iadd, 1) := dk_96 (dk_at dksX10_may_1 0 rfl rfl)
theorem dX10_may_25 : decode cX10_may 25 = .ok (.iastore, 1) := dk_79 (dk_at dksX10_may_1 1 rfl rfl)
theorem dX10_may_26 : decode cX10_may 26 = .ok (.aload_n 0, 1) := dk_42 (dk_at dksX10_may_1 2 rfl rfl)
theorem dX10_may_27 : decode cX10_may 27 = .ok (.getfield 3, 3) := dk_180 0 3 (dk_at dksX10_may_1 3 rfl rfl)
theorem dX10_may_30 : decode cX10_may 30 = .ok (.ifCond .ne 7, 3) := dk_154 0 7 (dk_at dksX10_may_1 6 rfl rfl)
theorem dX10_may_33 : decode cX10_may 33 = .ok (.iconst 1, 1) := dk_4 (dk_at dksX10_may_1 9 rfl rfl)
theorem dX10_may_34 : decode cX10_may 34 = .ok (.goto 4, 3) := dk_167 0 4 (dk_at dksX10_may_1 10 rfl rfl)
theorem dX10_may_37 : decode cX10_may 37 = .ok (.iconst 0, 1) := dk_3 (dk_at dksX10_may_1 13 rfl rfl)
theorem dX10_may_38 : decode cX10_may 38 = .ok (.ireturn, 1) := dk_172 (dk_at dksX10_may_1 14 rfl rfl)
abbrev cX10_begins : ByteArray := prog_19_method_17_code
def yX10_begins : MethodName := ⟨RX10, "begins", "(I)V"⟩
def dkwX10_begins_1 : List UInt8 := [181, 0, 153, 42, 3, 181, 0, 193, 177]
abbrev dktX10_begins_1 : List UInt8 := dkwX10_begins_1 ++ []
def dkwX10_begins_0 : List UInt8 := [42, 3, 181, 0, 150, 42, 2, 181, 0, 17, 42, 27, 181, 0, 162, 42, 3, 181, 0, 159, 42, 2]
abbrev dktX10_begins_0 : List UInt8 := dkwX10_begins_0 ++ dktX10_begins_1
theorem dksX10_begins_0 : cX10_begins.data.toList.drop 0 = dktX10_begins_0 := by decide +kernel
theorem dksX10_begins_1 : cX10_begins.data.toList.drop 22 = dktX10_begins_1 := dk_seg dksX10_begins_0 22 rfl rfl
theorem dX10_begins_0 : decode cX10_begins 0 = .ok (.aload_n 0, 1) := dk_42 (dk_at dksX10_begins_0 0 rfl rfl)
theorem dX10_begins_1 : decode cX10_begins 1 = .ok (.iconst 0, 1) := dk_3 (dk_at dksX10_begins_0 1 rfl rfl)
theorem dX10_begins_2 : decode cX10_begins 2 = .ok (.putfield 150, 3) := dk_181 0 150 (dk_at dksX10_begins_0 2 rfl rfl)
theorem dX10_begins_5 : decode cX10_begins 5 = .ok (.aload_n 0, 1) := dk_42 (dk_at dksX10_begins_0 5 rfl rfl)
theorem dX10_begins_6 : decode cX10_begins 6 = .ok (.iconst (-1), 1) := dk_2 (dk_at dksX10_begins_0 6 rfl rfl)
theorem dX10_begins_7 : decode cX10_begins 7 = .ok (.putfield 17, 3) := dk_181 0 17 (dk_at dksX10_begins_0 7 rfl rfl)
theorem dX10_begins_10 : decode cX10_begins 10 = .ok (.aload_n 0, 1) := dk_42 (dk_at dksX10_begins_0 10 rfl rfl)
theorem dX10_begins_11 : decode cX10_begins 11 = .ok (.iload_n 1, 1) := dk_27 (dk_at dksX10_begins_0 11 rfl rfl)
theorem dX10_begins_12 : decode cX10_begins 12 = .ok (.putfield 162, 3) := dk_181 0 162 (dk_at dksX10_begins_0 12 rfl rfl)
theorem dX10_begins_15 : decode cX10_begins 15 = .ok (.aload_n 0, 1) := dk_42 (dk_at dksX10_begins_0 15 rfl rfl)
theorem dX10_begins_16 : decode cX10_begins 16 = .ok (.iconst 0, 1) := dk_3 (dk_at dksX10_begins_0 16 rfl rfl)
theorem dX10_begins_17 : decode cX10_begins 17 = .ok (.putfield 159, 3) := dk_181 0 159 (dk_at dksX10_begins_0 17 rfl rfl)
theorem dX10_begins_20 : decode cX10_begins 20 = .ok (.aload_n 0, 1) := dk_42 (dk_at dksX10_begins_0 20 rfl rfl)
theorem dX10_begins_21 : decode cX10_begins 21 = .ok (.iconst (-1), 1) := dk_2 (dk_at dksX10_begins_0 21 rfl rfl)
theorem dX10_begins_22 : decode cX10_begins 22 = .ok (.putfield 153, 3) := dk_181 0 153 (dk_at dksX10_begins_1 0 rfl rfl)
theorem dX10_begins_25 : decode cX10_begins 25 = .ok (.aload_n 0, 1) := dk_42 (dk_at dksX10_begins_1 3 rfl rfl)
theorem dX10_begins_26 : decode cX10_begins 26 = .ok (.iconst 0, 1) := dk_3 (dk_at dksX10_begins_1 4 rfl rfl)
theorem dX10_begins_27 : decode cX10_begins 27 = .ok (.putfield 193, 3) := dk_181 0 193 (dk_at dksX10_begins_1 5 rfl rfl)
theorem dX10_begins_30 : decode cX10_begins 30 = .ok (.return_, 1) := dk_177 (dk_at dksX10_begins_1 8 rfl rfl)
abbrev cX10_fine : ByteArray := prog_19_method_6_code
def yX10_fine : MethodName := ⟨RX10, "fine", "()Z"⟩
def dkwX10_fine_0 : List UInt8 := [42, 180, 0, 153, 2, 160, 0, 7, 4, 167, 0, 4, 3, 172]
abbrev dktX10_fine_0 : List UInt8 := dkwX10_fine_0 ++ []
theorem dksX10_fine_0 : cX10_fine.data.toList.drop 0 = dktX10_fine_0 := by decide +kernel
theorem dX10_fine_0 : decode cX10_fine 0 = .ok (.aload_n 0, 1) := dk_42 (dk_at dksX10_fine_0 0 rfl rfl)
theorem dX10_fine_1 : decode cX10_fine 1 = .ok (.getfield 153, 3) := dk_180 0 153 (dk_at dksX10_fine_0 1 rfl rfl)
theorem dX10_fine_4 : decode cX10_fine 4 = .ok (.iconst (-1), 1) := dk_2 (dk_at dksX10_fine_0 4 rfl rfl)
theorem dX10_fine_5 : decode cX10_fine 5 = .ok (.if_icmp .ne 7, 3) := dk_160 0 7 (dk_at dksX10_fine_0 5 rfl rfl)
theorem dX10_fine_8 : decode cX10_fine 8 = .ok (.iconst 1, 1) := dk_4 (dk_at dksX10_fine_0 8 rfl rfl)
theorem dX10_fine_9 : decode cX10_fine 9 = .ok (.goto 4, 3) := dk_167 0 4 (dk_at dksX10_fine_0 9 rfl rfl)
theorem dX10_fine_12 : decode cX10_fine 12 = .ok (.iconst 0, 1) := dk_3 (dk_at dksX10_fine_0 12 rfl rfl)
theorem dX10_fine_13 : decode cX10_fine 13 = .ok (.ireturn, 1) := dk_172 (dk_at dksX10_fine_0 13 rfl rfl)
abbrev cX10_isMore : ByteArray := prog_19_method_16_code
def yX10_isMore : MethodName := ⟨RX10, "isMore", "()Z"⟩
def dkwX10_isMore_0 : List UInt8 := [42, 182, 0, 165, 87, 42, 180, 0, 159, 42, 180, 0, 162, 162, 0, 7, 4, 167, 0, 4, 3, 172]
abbrev dktX10_isMore_0 : List UInt8 := dkwX10_isMore_0 ++ []
theorem dksX10_isMore_0 : cX10_isMore.data.toList.drop 0 = dktX10_isMore_0 := by decide +kernel
theorem dX10_isMore_0 : decode cX10_isMore 0 = .ok (.aload_n 0, 1) := dk_42 (dk_at dksX10_isMore_0 0 rfl rfl)
theorem dX10_isMore_1 : decode cX10_isMore 1 = .ok (.invokevirtual 165, 3) := dk_182 0 165 (dk_at dksX10_isMore_0 1 rfl rfl)
theorem dX10_isMore_4 : decode cX10_isMore 4 = .ok (.pop, 1) := dk_87 (dk_at dksX10_isMore_0 4 rfl rfl)
theorem dX10_isMore_5 : decode cX10_isMore 5 = .ok (.aload_n 0, 1) := dk_42 (dk_at dksX10_isMore_0 5 rfl rfl)
theorem dX10_isMore_6 : decode cX10_isMore 6 = .ok (.getfield 159, 3) := dk_180 0 159 (dk_at dksX10_isMore_0 6 rfl rfl)
theorem dX10_isMore_9 : decode cX10_isMore 9 = .ok (.aload_n 0, 1) := dk_42 (dk_at dksX10_isMore_0 9 rfl rfl)
theorem dX10_isMore_10 : decode cX10_isMore 10 = .ok (.getfield 162, 3) := dk_180 0 162 (dk_at dksX10_isMore_0 10 rfl rfl)
theorem dX10_isMore_13 : decode cX10_isMore 13 = .ok (.if_icmp .ge 7, 3) := dk_162 0 7 (dk_at dksX10_isMore_0 13 rfl rfl)
theorem dX10_isMore_16 : decode cX10_isMore 16 = .ok (.iconst 1, 1) := dk_4 (dk_at dksX10_isMore_0 16 rfl rfl)
theorem dX10_isMore_17 : decode cX10_isMore 17 = .ok (.goto 4, 3) := dk_167 0 4 (dk_at dksX10_isMore_0 17 rfl rfl)
theorem dX10_isMore_20 : decode cX10_isMore 20 = .ok (.iconst 0, 1) := dk_3 (dk_at dksX10_isMore_0 20 rfl rfl)
theorem dX10_isMore_21 : decode cX10_isMore 21 = .ok (.ireturn, 1) := dk_172 (dk_at dksX10_isMore_0 21 rfl rfl)
abbrev cX10_here : ByteArray := prog_19_method_8_code
def yX10_here : MethodName := ⟨RX10, "here", "()I"⟩
def dkwX10_here_2 : List UInt8 := [162, 0, 15, 42, 180, 0, 20, 42, 180, 0, 159, 46, 167, 0, 4, 3, 172]
abbrev dktX10_here_2 : List UInt8 := dkwX10_here_2 ++ []
def dkwX10_here_1 : List UInt8 := [160, 0, 16, 42, 89, 180, 0, 159, 4, 96, 181, 0, 159, 167, 255, 221, 42, 180, 0, 159, 42, 180, 0, 162]
abbrev dktX10_here_1 : List UInt8 := dkwX10_here_1 ++ dktX10_here_2
def dkwX10_here_0 : List UInt8 := [42, 180, 0, 159, 42, 180, 0, 162, 162, 0, 30, 42, 180, 0, 20, 42, 180, 0, 159, 46, 16, 32]
abbrev dktX10_here_0 : List UInt8 := dkwX10_here_0 ++ dktX10_here_1
theorem dksX10_here_0 : cX10_here.data.toList.drop 0 = dktX10_here_0 := by decide +kernel
theorem dksX10_here_1 : cX10_here.data.toList.drop 22 = dktX10_here_1 := dk_seg dksX10_here_0 22 rfl rfl
theorem dksX10_here_2 : cX10_here.data.toList.drop 46 = dktX10_here_2 := dk_seg dksX10_here_1 24 rfl rfl
theorem dX10_here_0 : decode cX10_here 0 = .ok (.aload_n 0, 1) := dk_42 (dk_at dksX10_here_0 0 rfl rfl)
theorem dX10_here_1 : decode cX10_here 1 = .ok (.getfield 159, 3) := dk_180 0 159 (dk_at dksX10_here_0 1 rfl rfl)
theorem dX10_here_4 : decode cX10_here 4 = .ok (.aload_n 0, 1) := dk_42 (dk_at dksX10_here_0 4 rfl rfl)
theorem dX10_here_5 : decode cX10_here 5 = .ok (.getfield 162, 3) := dk_180 0 162 (dk_at dksX10_here_0 5 rfl rfl)
theorem dX10_here_8 : decode cX10_here 8 = .ok (.if_icmp .ge 30, 3) := dk_162 0 30 (dk_at dksX10_here_0 8 rfl rfl)
theorem dX10_here_11 : decode cX10_here 11 = .ok (.aload_n 0, 1) := dk_42 (dk_at dksX10_here_0 11 rfl rfl)
theorem dX10_here_12 : decode cX10_here 12 = .ok (.getfield 20, 3) := dk_180 0 20 (dk_at dksX10_here_0 12 rfl rfl)
theorem dX10_here_15 : decode cX10_here 15 = .ok (.aload_n 0, 1) := dk_42 (dk_at dksX10_here_0 15 rfl rfl)
theorem dX10_here_16 : decode cX10_here 16 = .ok (.getfield 159, 3) := dk_180 0 159 (dk_at dksX10_here_0 16 rfl rfl)
theorem dX10_here_19 : decode cX10_here 19 = .ok (.iaload, 1) := dk_46 (dk_at dksX10_here_0 19 rfl rfl)
theorem dX10_here_20 : decode cX10_here 20 = .ok (.bipush 32, 2) := dk_16 32 (dk_at dksX10_here_0 20 rfl rfl)
theorem dX10_here_22 : decode cX10_here 22 = .ok (.if_icmp .ne 16, 3) := dk_160 0 16 (dk_at dksX10_here_1 0 rfl rfl)
theorem dX10_here_25 : decode cX10_here 25 = .ok (.aload_n 0, 1) := dk_42 (dk_at dksX10_here_1 3 rfl rfl)
theorem dX10_here_26 : decode cX10_here 26 = .ok (.dup, 1) := dk_89 (dk_at dksX10_here_1 4 rfl rfl)
theorem dX10_here_27 : decode cX10_here 27 = .ok (.getfield 159, 3) := dk_180 0 159 (dk_at dksX10_here_1 5 rfl rfl)
theorem dX10_here_30 : decode cX10_here 30 = .ok (.iconst 1, 1) := dk_4 (dk_at dksX10_here_1 8 rfl rfl)
theorem dX10_here_31 : decode cX10_here 31 = .ok (.iadd, 1) := dk_96 (dk_at dksX10_here_1 9 rfl rfl)
theorem dX10_here_32 : decode cX10_here 32 = .ok (.putfield 159, 3) := dk_181 0 159 (dk_at dksX10_here_1 10 rfl rfl)
theorem dX10_here_35 : decode cX10_here 35 = .ok (.goto (-35), 3) := dk_167 255 221 (dk_at dksX10_here_1 13 rfl rfl)
theorem dX10_here_38 : decode cX10_here 38 = .ok (.aload_n 0, 1) := dk_42 (dk_at dksX10_here_1 16 rfl rfl)
theorem dX10_here_39 : decode cX10_here 39 = .ok (.getfield 159, 3) := dk_180 0 159 (dk_at dksX10_here_1 17 rfl rfl)
theorem dX10_here_42 : decode cX10_here 42 = .ok (.aload_n 0, 1) := dk_42 (dk_at dksX10_here_1 20 rfl rfl)
theorem dX10_here_43 : decode cX10_here 43 = .ok (.getfield 162, 3) := dk_180 0 162 (dk_at dksX10_here_1 21 rfl rfl)
theorem dX10_here_46 : decode cX10_here 46 = .ok (.if_icmp .ge 15, 3) := dk_162 0 15 (dk_at dksX10_here_2 0 rfl rfl)
theorem dX10_here_49 : decode cX10_here 49 = .ok (.aload_n 0, 1) := dk_42 (dk_at dksX10_here_2 3 rfl rfl)
theorem dX10_here_50 : decode cX10_here 50 = .ok (.getfield 20, 3) := dk_180 0 20 (dk_at dksX10_here_2 4 rfl rfl)
theorem dX10_here_53 : decode cX10_here 53 = .ok (.aload_n 0, 1) := dk_42 (dk_at dksX10_here_2 7 rfl rfl)
theorem dX10_here_54 : decode cX10_here 54 = .ok (.getfield 159, 3) := dk_180 0 159 (dk_at dksX10_here_2 8 rfl rfl)
theorem dX10_here_57 : decode cX10_here 57 = .ok (.iaload, 1) := dk_46 (dk_at dksX10_here_2 11 rfl rfl)
theorem dX10_here_58 : decode cX10_here 58 = .ok (.goto 4, 3) := dk_167 0 4 (dk_at dksX10_here_2 12 rfl rfl)
theorem dX10_here_61 : decode cX10_here 61 = .ok (.iconst 0, 1) := dk_3 (dk_at dksX10_here_2 15 rfl rfl)
theorem dX10_here_62 : decode cX10_here 62 = .ok (.ireturn, 1) := dk_172 (dk_at dksX10_here_2 16 rfl rfl)
abbrev cX10_word : ByteArray := prog_19_method_11_code
def yX10_word : MethodName := ⟨RX10, "word", "()I"⟩
def dkwX10_word_3 : List UInt8 := [164, 0, 7, 3, 167, 0, 4, 27, 172]
abbrev dktX10_word_3 : List UInt8 := dkwX10_word_3 ++ []
def dkwX10_word_2 : List UInt8 := [29, 46, 16, 96, 100, 128, 167, 0, 4, 3, 60, 132, 2, 1, 132, 3, 1, 167, 255, 206, 28, 16, 6]
abbrev dktX10_word_2 : List UInt8 := dkwX10_word_2 ++ dktX10_word_3
def dkwX10_word_1 : List UInt8 := [180, 0, 20, 29, 46, 184, 0, 169, 153, 0, 36, 28, 16, 6, 162, 0, 19, 27, 8, 120, 42, 180, 0, 20]
abbrev dktX10_word_1 : List UInt8 := dkwX10_word_1 ++ dktX10_word_2
def dkwX10_word_0 : List UInt8 := [42, 182, 0, 165, 87, 3, 60, 3, 61, 42, 180, 0, 159, 62, 29, 42, 180, 0, 162, 162, 0, 48, 42]
abbrev dktX10_word_0 : List UInt8 := dkwX10_word_0 ++ dktX10_word_1
theorem dksX10_word_0 : cX10_word.data.toList.drop 0 = dktX10_word_0 := by decide +kernel
theorem dksX10_word_1 : cX10_word.data.toList.drop 23 = dktX10_word_1 := dk_seg dksX10_word_0 23 rfl rfl
theorem dksX10_word_2 : cX10_word.data.toList.drop 47 = dktX10_word_2 := dk_seg dksX10_word_1 24 rfl rfl
theorem dksX10_word_3 : cX10_word.data.toList.drop 70 = dktX10_word_3 := dk_seg dksX10_word_2 23 rfl rfl
theorem dX10_word_0 : decode cX10_word 0 = .ok (.aload_n 0, 1) := dk_42 (dk_at dksX10_word_0 0 rfl rfl)
theorem dX10_word_1 : decode cX10_word 1 = .ok (.invokevirtual 165, 3) := dk_182 0 165 (dk_at dksX10_word_0 1 rfl rfl)
theorem dX10_word_4 : decode cX10_word 4 = .ok (.pop, 1) := dk_87 (dk_at dksX10_word_0 4 rfl rfl)
theorem dX10_word_5 : decode cX10_word 5 = .ok (.iconst 0, 1) := dk_3 (dk_at dksX10_word_0 5 rfl rfl)
theorem dX10_word_6 : decode cX10_word 6 = .ok (.istore_n 1, 1) := dk_60 (dk_at dksX10_word_0 6 rfl rfl)
theorem dX10_word_7 : decode cX10_word 7 = .ok (.iconst 0, 1) := dk_3 (dk_at dksX10_word_0 7 rfl rfl)
theorem dX10_word_8 : decode cX10_word 8 = .ok (.istore_n 2, 1) := dk_61 (dk_at dksX10_word_0 8 rfl rfl)
theorem dX10_word_9 : decode cX10_word 9 = .ok (.aload_n 0, 1) := dk_42 (dk_at dksX10_word_0 9 rfl rfl)
theorem dX10_word_10 : decode cX10_word 10 = .ok (.getfield 159, 3) := dk_180 0 159 (dk_at dksX10_word_0 10 rfl rfl)
theorem dX10_word_13 : decode cX10_word 13 = .ok (.istore_n 3, 1) := dk_62 (dk_at dksX10_word_0 13 rfl rfl)
theorem dX10_word_14 : decode cX10_word 14 = .ok (.iload_n 3, 1) := dk_29 (dk_at dksX10_word_0 14 rfl rfl)
theorem dX10_word_15 : decode cX10_word 15 = .ok (.aload_n 0, 1) := dk_42 (dk_at dksX10_word_0 15 rfl rfl)
theorem dX10_word_16 : decode cX10_word 16 = .ok (.getfield 162, 3) := dk_180 0 162 (dk_at dksX10_word_0 16 rfl rfl)
theorem dX10_word_19 : decode cX10_word 19 = .ok (.if_icmp .ge 48, 3) := dk_162 0 48 (dk_at dksX10_word_0 19 rfl rfl)
theorem dX10_word_22 : decode cX10_word 22 = .ok (.aload_n 0, 1) := dk_42 (dk_at dksX10_word_0 22 rfl rfl)
theorem dX10_word_23 : decode cX10_word 23 = .ok (.getfield 20, 3) := dk_180 0 20 (dk_at dksX10_word_1 0 rfl rfl)
theorem dX10_word_26 : decode cX10_word 26 = .ok (.iload_n 3, 1) := dk_29 (dk_at dksX10_word_1 3 rfl rfl)
theorem dX10_word_27 : decode cX10_word 27 = .ok (.iaload, 1) := dk_46 (dk_at dksX10_word_1 4 rfl rfl)
theorem dX10_word_28 : decode cX10_word 28 = .ok (.invokestatic 169, 3) := dk_184 0 169 (dk_at dksX10_word_1 5 rfl rfl)
theorem dX10_word_31 : decode cX10_word 31 = .ok (.ifCond .eq 36, 3) := dk_153 0 36 (dk_at dksX10_word_1 8 rfl rfl)
theorem dX10_word_34 : decode cX10_word 34 = .ok (.iload_n 2, 1) := dk_28 (dk_at dksX10_word_1 11 rfl rfl)
theorem dX10_word_35 : decode cX10_word 35 = .ok (.bipush 6, 2) := dk_16 6 (dk_at dksX10_word_1 12 rfl rfl)
theorem dX10_word_37 : decode cX10_word 37 = .ok (.if_icmp .ge 19, 3) := dk_162 0 19 (dk_at dksX10_word_1 14 rfl rfl)
theorem dX10_word_40 : decode cX10_word 40 = .ok (.iload_n 1, 1) := dk_27 (dk_at dksX10_word_1 17 rfl rfl)
theorem dX10_word_41 : decode cX10_word 41 = .ok (.iconst 5, 1) := dk_8 (dk_at dksX10_word_1 18 rfl rfl)
theorem dX10_word_42 : decode cX10_word 42 = .ok (.ishl, 1) := dk_120 (dk_at dksX10_word_1 19 rfl rfl)
theorem dX10_word_43 : decode cX10_word 43 = .ok (.aload_n 0, 1) := dk_42 (dk_at dksX10_word_1 20 rfl rfl)
theorem dX10_word_44 : decode cX10_word 44 = .ok (.getfield 20, 3) := dk_180 0 20 (dk_at dksX10_word_1 21 rfl rfl)
theorem dX10_word_47 : decode cX10_word 47 = .ok (.iload_n 3, 1) := dk_29 (dk_at dksX10_word_2 0 rfl rfl)
theorem dX10_word_48 : decode cX10_word 48 = .ok (.iaload, 1) := dk_46 (dk_at dksX10_word_2 1 rfl rfl)
theorem dX10_word_49 : decode cX10_word 49 = .ok (.bipush 96, 2) := dk_16 96 (dk_at dksX10_word_2 2 rfl rfl)
theorem dX10_word_51 : decode cX10_word 51 = .ok (.isub, 1) := dk_100 (dk_at dksX10_word_2 4 rfl rfl)
theorem dX10_word_52 : decode cX10_word 52 = .ok (.ior, 1) := dk_128 (dk_at dksX10_word_2 5 rfl rfl)
theorem dX10_word_53 : decode cX10_word 53 = .ok (.goto 4, 3) := dk_167 0 4 (dk_at dksX10_word_2 6 rfl rfl)
theorem dX10_word_56 : decode cX10_word 56 = .ok (.iconst 0, 1) := dk_3 (dk_at dksX10_word_2 9 rfl rfl)
theorem dX10_word_57 : decode cX10_word 57 = .ok (.istore_n 1, 1) := dk_60 (dk_at dksX10_word_2 10 rfl rfl)
theorem dX10_word_58 : decode cX10_word 58 = .ok (.iinc 2 1, 3) := dk_132 2 1 (dk_at dksX10_word_2 11 rfl rfl)
theorem dX10_word_61 : decode cX10_word 61 = .ok (.iinc 3 1, 3) := dk_132 3 1 (dk_at dksX10_word_2 14 rfl rfl)
theorem dX10_word_64 : decode cX10_word 64 = .ok (.goto (-50), 3) := dk_167 255 206 (dk_at dksX10_word_2 17 rfl rfl)
theorem dX10_word_67 : decode cX10_word 67 = .ok (.iload_n 2, 1) := dk_28 (dk_at dksX10_word_2 20 rfl rfl)
theorem dX10_word_68 : decode cX10_word 68 = .ok (.bipush 6, 2) := dk_16 6 (dk_at dksX10_word_2 21 rfl rfl)
theorem dX10_word_70 : decode cX10_word 70 = .ok (.if_icmp .le 7, 3) := dk_164 0 7 (dk_at dksX10_word_3 0 rfl rfl)
theorem dX10_word_73 : decode cX10_word 73 = .ok (.iconst 0, 1) := dk_3 (dk_at dksX10_word_3 3 rfl rfl)
theorem dX10_word_74 : decode cX10_word 74 = .ok (.goto 4, 3) := dk_167 0 4 (dk_at dksX10_word_3 4 rfl rfl)
theorem dX10_word_77 : decode cX10_word 77 = .ok (.iload_n 1, 1) := dk_27 (dk_at dksX10_word_3 7 rfl rfl)
theorem dX10_word_78 : decode cX10_word 78 = .ok (.ireturn, 1) := dk_172 (dk_at dksX10_word_3 8 rfl rfl)
abbrev cX10_isSmall : ByteArray := prog_19_method_9_code
def yX10_isSmall : MethodName := ⟨RX10, "isSmall", "(I)Z"⟩
def dkwX10_isSmall_0 : List UInt8 := [26, 16, 97, 161, 0, 13, 26, 16, 122, 163, 0, 7, 4, 167, 0, 4, 3, 172]
abbrev dktX10_isSmall_0 : List UInt8 := dkwX10_isSmall_0 ++ []
theorem dksX10_isSmall_0 : cX10_isSmall.data.toList.drop 0 = dktX10_isSmall_0 := by decide +kernel
theorem dX10_isSmall_0 : decode cX10_isSmall 0 = .ok (.iload_n 0, 1) := dk_26 (dk_at dksX10_isSmall_0 0 rfl rfl)
theorem dX10_isSmall_1 : decode cX10_isSmall 1 = .ok (.bipush 97, 2) := dk_16 97 (dk_at dksX10_isSmall_0 1 rfl rfl)
theorem dX10_isSmall_3 : decode cX10_isSmall 3 = .ok (.if_icmp .lt 13, 3) := dk_161 0 13 (dk_at dksX10_isSmall_0 3 rfl rfl)
theorem dX10_isSmall_6 : decode cX10_isSmall 6 = .ok (.iload_n 0, 1) := dk_26 (dk_at dksX10_isSmall_0 6 rfl rfl)
theorem dX10_isSmall_7 : decode cX10_isSmall 7 = .ok (.bipush 122, 2) := dk_16 122 (dk_at dksX10_isSmall_0 7 rfl rfl)
theorem dX10_isSmall_9 : decode cX10_isSmall 9 = .ok (.if_icmp .gt 7, 3) := dk_163 0 7 (dk_at dksX10_isSmall_0 9 rfl rfl)
theorem dX10_isSmall_12 : decode cX10_isSmall 12 = .ok (.iconst 1, 1) := dk_4 (dk_at dksX10_isSmall_0 12 rfl rfl)
theorem dX10_isSmall_13 : decode cX10_isSmall 13 = .ok (.goto 4, 3) := dk_167 0 4 (dk_at dksX10_isSmall_0 13 rfl rfl)
theorem dX10_isSmall_16 : decode cX10_isSmall 16 = .ok (.iconst 0, 1) := dk_3 (dk_at dksX10_isSmall_0 16 rfl rfl)
theorem dX10_isSmall_17 : decode cX10_isSmall 17 = .ok (.ireturn, 1) := dk_172 (dk_at dksX10_isSmall_0 17 rfl rfl)
abbrev cX10_isThing : ByteArray := prog_19_method_25_code
def yX10_isThing : MethodName := ⟨RX10, "isThing", "(I)Z"⟩
def dkwX10_isThing_2 : List UInt8 := [160, 0, 7, 4, 167, 0, 4, 3, 172]
abbrev dktX10_isThing_2 : List UInt8 := dkwX10_isThing_2 ++ []
def dkwX10_isThing_1 : List UInt8 := [184, 0, 250, 159, 0, 23, 26, 19, 1, 4, 184, 0, 250, 159, 0, 13, 26, 19, 1, 16, 184, 0, 250]
abbrev dktX10_isThing_1 : List UInt8 := dkwX10_isThing_1 ++ dktX10_isThing_2
def dkwX10_isThing_0 : List UInt8 := [26, 18, 248, 184, 0, 250, 159, 0, 43, 26, 19, 1, 2, 184, 0, 250, 159, 0, 33, 26, 19, 1, 3]
abbrev dktX10_isThing_0 : List UInt8 := dkwX10_isThing_0 ++ dktX10_isThing_1
theorem dksX10_isThing_0 : cX10_isThing.data.toList.drop 0 = dktX10_isThing_0 := by decide +kernel
theorem dksX10_isThing_1 : cX10_isThing.data.toList.drop 23 = dktX10_isThing_1 := dk_seg dksX10_isThing_0 23 rfl rfl
theorem dksX10_isThing_2 : cX10_isThing.data.toList.drop 46 = dktX10_isThing_2 := dk_seg dksX10_isThing_1 23 rfl rfl
theorem dX10_isThing_0 : decode cX10_isThing 0 = .ok (.iload_n 0, 1) := dk_26 (dk_at dksX10_isThing_0 0 rfl rfl)
theorem dX10_isThing_1 : decode cX10_isThing 1 = .ok (.ldc 248, 2) := dk_18 248 (dk_at dksX10_isThing_0 1 rfl rfl)
theorem dX10_isThing_3 : decode cX10_isThing 3 = .ok (.invokestatic 250, 3) := dk_184 0 250 (dk_at dksX10_isThing_0 3 rfl rfl)
theorem dX10_isThing_6 : decode cX10_isThing 6 = .ok (.if_icmp .eq 43, 3) := dk_159 0 43 (dk_at dksX10_isThing_0 6 rfl rfl)
theorem dX10_isThing_9 : decode cX10_isThing 9 = .ok (.iload_n 0, 1) := dk_26 (dk_at dksX10_isThing_0 9 rfl rfl)
theorem dX10_isThing_10 : decode cX10_isThing 10 = .ok (.ldc_w 258, 3) := dk_19 1 2 (dk_at dksX10_isThing_0 10 rfl rfl)
theorem dX10_isThing_13 : decode cX10_isThing 13 = .ok (.invokestatic 250, 3) := dk_184 0 250 (dk_at dksX10_isThing_0 13 rfl rfl)
theorem dX10_isThing_16 : decode cX10_isThing 16 = .ok (.if_icmp .eq 33, 3) := dk_159 0 33 (dk_at dksX10_isThing_0 16 rfl rfl)
theorem dX10_isThing_19 : decode cX10_isThing 19 = .ok (.iload_n 0, 1) := dk_26 (dk_at dksX10_isThing_0 19 rfl rfl)
theorem dX10_isThing_20 : decode cX10_isThing 20 = .ok (.ldc_w 259, 3) := dk_19 1 3 (dk_at dksX10_isThing_0 20 rfl rfl)
theorem dX10_isThing_23 : decode cX10_isThing 23 = .ok (.invokestatic 250, 3) := dk_184 0 250 (dk_at dksX10_isThing_1 0 rfl rfl)
theorem dX10_isThing_26 : decode cX10_isThing 26 = .ok (.if_icmp .eq 23, 3) := dk_159 0 23 (dk_at dksX10_isThing_1 3 rfl rfl)
theorem dX10_isThing_29 : decode cX10_isThing 29 = .ok (.iload_n 0, 1) := dk_26 (dk_at dksX10_isThing_1 6 rfl rfl)
theorem dX10_isThing_30 : decode cX10_isThing 30 = .ok (.ldc_w 260, 3) := dk_19 1 4 (dk_at dksX10_isThing_1 7 rfl rfl)
theorem dX10_isThing_33 : decode cX10_isThing 33 = .ok (.invokestatic 250, 3) := dk_184 0 250 (dk_at dksX10_isThing_1 10 rfl rfl)
theorem dX10_isThing_36 : decode cX10_isThing 36 = .ok (.if_icmp .eq 13, 3) := dk_159 0 13 (dk_at dksX10_isThing_1 13 rfl rfl)
theorem dX10_isThing_39 : decode cX10_isThing 39 = .ok (.iload_n 0, 1) := dk_26 (dk_at dksX10_isThing_1 16 rfl rfl)
theorem dX10_isThing_40 : decode cX10_isThing 40 = .ok (.ldc_w 272, 3) := dk_19 1 16 (dk_at dksX10_isThing_1 17 rfl rfl)
theorem dX10_isThing_43 : decode cX10_isThing 43 = .ok (.invokestatic 250, 3) := dk_184 0 250 (dk_at dksX10_isThing_1 20 rfl rfl)
theorem dX10_isThing_46 : decode cX10_isThing 46 = .ok (.if_icmp .ne 7, 3) := dk_160 0 7 (dk_at dksX10_isThing_2 0 rfl rfl)
theorem dX10_isThing_49 : decode cX10_isThing 49 = .ok (.iconst 1, 1) := dk_4 (dk_at dksX10_isThing_2 3 rfl rfl)
theorem dX10_isThing_50 : decode cX10_isThing 50 = .ok (.goto 4, 3) := dk_167 0 4 (dk_at dksX10_isThing_2 4 rfl rfl)
theorem dX10_isThing_53 : decode cX10_isThing 53 = .ok (.iconst 0, 1) := dk_3 (dk_at dksX10_isThing_2 7 rfl rfl)
theorem dX10_isThing_54 : decode cX10_isThing 54 = .ok (.ireturn, 1) := dk_172 (dk_at dksX10_isThing_2 8 rfl rfl)
abbrev cX10_of : ByteArray := prog_19_method_12_code
def yX10_of : MethodName := ⟨RX10, "of", "(Ljava/lang/String;)I"⟩
def dkwX10_of_1 : List UInt8 := [60, 132, 2, 1, 167, 255, 232, 27, 172]
abbrev dktX10_of_1 : List UInt8 := dkwX10_of_1 ++ []
def dkwX10_of_0 : List UInt8 := [3, 60, 3, 61, 28, 42, 182, 0, 173, 162, 0, 22, 27, 8, 120, 42, 28, 182, 0, 178, 16, 96, 100, 128]
abbrev dktX10_of_0 : List UInt8 := dkwX10_of_0 ++ dktX10_of_1
theorem dksX10_of_0 : cX10_of.data.toList.drop 0 = dktX10_of_0 := by decide +kernel
theorem dksX10_of_1 : cX10_of.data.toList.drop 24 = dktX10_of_1 := dk_seg dksX10_of_0 24 rfl rfl
theorem dX10_of_0 : decode cX10_of 0 = .ok (.iconst 0, 1) := dk_3 (dk_at dksX10_of_0 0 rfl rfl)
theorem dX10_of_1 : decode cX10_of 1 = .ok (.istore_n 1, 1) := dk_60 (dk_at dksX10_of_0 1 rfl rfl)
theorem dX10_of_2 : decode cX10_of 2 = .ok (.iconst 0, 1) := dk_3 (dk_at dksX10_of_0 2 rfl rfl)
theorem dX10_of_3 : decode cX10_of 3 = .ok (.istore_n 2, 1) := dk_61 (dk_at dksX10_of_0 3 rfl rfl)
theorem dX10_of_4 : decode cX10_of 4 = .ok (.iload_n 2, 1) := dk_28 (dk_at dksX10_of_0 4 rfl rfl)
theorem dX10_of_5 : decode cX10_of 5 = .ok (.aload_n 0, 1) := dk_42 (dk_at dksX10_of_0 5 rfl rfl)
theorem dX10_of_6 : decode cX10_of 6 = .ok (.invokevirtual 173, 3) := dk_182 0 173 (dk_at dksX10_of_0 6 rfl rfl)
theorem dX10_of_9 : decode cX10_of 9 = .ok (.if_icmp .ge 22, 3) := dk_162 0 22 (dk_at dksX10_of_0 9 rfl rfl)
theorem dX10_of_12 : decode cX10_of 12 = .ok (.iload_n 1, 1) := dk_27 (dk_at dksX10_of_0 12 rfl rfl)
theorem dX10_of_13 : decode cX10_of 13 = .ok (.iconst 5, 1) := dk_8 (dk_at dksX10_of_0 13 rfl rfl)
theorem dX10_of_14 : decode cX10_of 14 = .ok (.ishl, 1) := dk_120 (dk_at dksX10_of_0 14 rfl rfl)
theorem dX10_of_15 : decode cX10_of 15 = .ok (.aload_n 0, 1) := dk_42 (dk_at dksX10_of_0 15 rfl rfl)
theorem dX10_of_16 : decode cX10_of 16 = .ok (.iload_n 2, 1) := dk_28 (dk_at dksX10_of_0 16 rfl rfl)
theorem dX10_of_17 : decode cX10_of 17 = .ok (.invokevirtual 178, 3) := dk_182 0 178 (dk_at dksX10_of_0 17 rfl rfl)
theorem dX10_of_20 : decode cX10_of 20 = .ok (.bipush 96, 2) := dk_16 96 (dk_at dksX10_of_0 20 rfl rfl)
theorem dX10_of_22 : decode cX10_of 22 = .ok (.isub, 1) := dk_100 (dk_at dksX10_of_0 22 rfl rfl)
theorem dX10_of_23 : decode cX10_of 23 = .ok (.ior, 1) := dk_128 (dk_at dksX10_of_0 23 rfl rfl)
theorem dX10_of_24 : decode cX10_of 24 = .ok (.istore_n 1, 1) := dk_60 (dk_at dksX10_of_1 0 rfl rfl)
theorem dX10_of_25 : decode cX10_of 25 = .ok (.iinc 2 1, 3) := dk_132 2 1 (dk_at dksX10_of_1 1 rfl rfl)
theorem dX10_of_28 : decode cX10_of 28 = .ok (.goto (-24), 3) := dk_167 255 232 (dk_at dksX10_of_1 4 rfl rfl)
theorem dX10_of_31 : decode cX10_of 31 = .ok (.iload_n 1, 1) := dk_27 (dk_at dksX10_of_1 7 rfl rfl)
theorem dX10_of_32 : decode cX10_of 32 = .ok (.ireturn, 1) := dk_172 (dk_at dksX10_of_1 8 rfl rfl)
abbrev cX10_isOther : ByteArray := prog_19_method_26_code
def yX10_isOther : MethodName := ⟨RX10, "isOther", "(I)Z"⟩
def dkwX10_isOther_3 : List UInt8 := [167, 0, 4, 3, 172]
abbrev dktX10_isOther_3 : List UInt8 := dkwX10_isOther_3 ++ []
def dkwX10_isOther_2 : List UInt8 := [159, 0, 23, 26, 19, 1, 14, 184, 0, 250, 159, 0, 13, 26, 19, 1, 17, 184, 0, 250, 160, 0, 7, 4]
abbrev dktX10_isOther_2 : List UInt8 := dkwX10_isOther_2 ++ dktX10_isOther_3
def dkwX10_isOther_1 : List UInt8 := [184, 0, 250, 159, 0, 43, 26, 19, 1, 10, 184, 0, 250, 159, 0, 33, 26, 19, 1, 12, 184, 0, 250]
abbrev dktX10_isOther_1 : List UInt8 := dkwX10_isOther_1 ++ dktX10_isOther_2
def dkwX10_isOther_0 : List UInt8 := [26, 19, 1, 5, 184, 0, 250, 159, 0, 63, 26, 19, 1, 7, 184, 0, 250, 159, 0, 53, 26, 19, 1, 8]
abbrev dktX10_isOther_0 : List UInt8 := dkwX10_isOther_0 ++ dktX10_isOther_1
theorem dksX10_isOther_0 : cX10_isOther.data.toList.drop 0 = dktX10_isOther_0 := by decide +kernel
theorem dksX10_isOther_1 : cX10_isOther.data.toList.drop 24 = dktX10_isOther_1 := dk_seg dksX10_isOther_0 24 rfl rfl
theorem dksX10_isOther_2 : cX10_isOther.data.toList.drop 47 = dktX10_isOther_2 := dk_seg dksX10_isOther_1 23 rfl rfl
theorem dksX10_isOther_3 : cX10_isOther.data.toList.drop 71 = dktX10_isOther_3 := dk_seg dksX10_isOther_2 24 rfl rfl
theorem dX10_isOther_0 : decode cX10_isOther 0 = .ok (.iload_n 0, 1) := dk_26 (dk_at dksX10_isOther_0 0 rfl rfl)
theorem dX10_isOther_1 : decode cX10_isOther 1 = .ok (.ldc_w 261, 3) := dk_19 1 5 (dk_at dksX10_isOther_0 1 rfl rfl)
theorem dX10_isOther_4 : decode cX10_isOther 4 = .ok (.invokestatic 250, 3) := dk_184 0 250 (dk_at dksX10_isOther_0 4 rfl rfl)
theorem dX10_isOther_7 : decode cX10_isOther 7 = .ok (.if_icmp .eq 63, 3) := dk_159 0 63 (dk_at dksX10_isOther_0 7 rfl rfl)
theorem dX10_isOther_10 : decode cX10_isOther 10 = .ok (.iload_n 0, 1) := dk_26 (dk_at dksX10_isOther_0 10 rfl rfl)
theorem dX10_isOther_11 : decode cX10_isOther 11 = .ok (.ldc_w 263, 3) := dk_19 1 7 (dk_at dksX10_isOther_0 11 rfl rfl)
theorem dX10_isOther_14 : decode cX10_isOther 14 = .ok (.invokestatic 250, 3) := dk_184 0 250 (dk_at dksX10_isOther_0 14 rfl rfl)
theorem dX10_isOther_17 : decode cX10_isOther 17 = .ok (.if_icmp .eq 53, 3) := dk_159 0 53 (dk_at dksX10_isOther_0 17 rfl rfl)
theorem dX10_isOther_20 : decode cX10_isOther 20 = .ok (.iload_n 0, 1) := dk_26 (dk_at dksX10_isOther_0 20 rfl rfl)
theorem dX10_isOther_21 : decode cX10_isOther 21 = .ok (.ldc_w 264, 3) := dk_19 1 8 (dk_at dksX10_isOther_0 21 rfl rfl)
theorem dX10_isOther_24 : decode cX10_isOther 24 = .ok (.invokestatic 250, 3) := dk_184 0 250 (dk_at dksX10_isOther_1 0 rfl rfl)
theorem dX10_isOther_27 : decode cX10_isOther 27 = .ok (.if_icmp .eq 43, 3) := dk_159 0 43 (dk_at dksX10_isOther_1 3 rfl rfl)
theorem dX10_isOther_30 : decode cX10_isOther 30 = .ok (.iload_n 0, 1) := dk_26 (dk_at dksX10_isOther_1 6 rfl rfl)
theorem dX10_isOther_31 : decode cX10_isOther 31 = .ok (.ldc_w 266, 3) := dk_19 1 10 (dk_at dksX10_isOther_1 7 rfl rfl)
theorem dX10_isOther_34 : decode cX10_isOther 34 = .ok (.invokestatic 250, 3) := dk_184 0 250 (dk_at dksX10_isOther_1 10 rfl rfl)
theorem dX10_isOther_37 : decode cX10_isOther 37 = .ok (.if_icmp .eq 33, 3) := dk_159 0 33 (dk_at dksX10_isOther_1 13 rfl rfl)
theorem dX10_isOther_40 : decode cX10_isOther 40 = .ok (.iload_n 0, 1) := dk_26 (dk_at dksX10_isOther_1 16 rfl rfl)
theorem dX10_isOther_41 : decode cX10_isOther 41 = .ok (.ldc_w 268, 3) := dk_19 1 12 (dk_at dksX10_isOther_1 17 rfl rfl)
theorem dX10_isOther_44 : decode cX10_isOther 44 = .ok (.invokestatic 250, 3) := dk_184 0 250 (dk_at dksX10_isOther_1 20 rfl rfl)
theorem dX10_isOther_47 : decode cX10_isOther 47 = .ok (.if_icmp .eq 23, 3) := dk_159 0 23 (dk_at dksX10_isOther_2 0 rfl rfl)
theorem dX10_isOther_50 : decode cX10_isOther 50 = .ok (.iload_n 0, 1) := dk_26 (dk_at dksX10_isOther_2 3 rfl rfl)
theorem dX10_isOther_51 : decode cX10_isOther 51 = .ok (.ldc_w 270, 3) := dk_19 1 14 (dk_at dksX10_isOther_2 4 rfl rfl)
theorem dX10_isOther_54 : decode cX10_isOther 54 = .ok (.invokestatic 250, 3) := dk_184 0 250 (dk_at dksX10_isOther_2 7 rfl rfl)
theorem dX10_isOther_57 : decode cX10_isOther 57 = .ok (.if_icmp .eq 13, 3) := dk_159 0 13 (dk_at dksX10_isOther_2 10 rfl rfl)
theorem dX10_isOther_60 : decode cX10_isOther 60 = .ok (.iload_n 0, 1) := dk_26 (dk_at dksX10_isOther_2 13 rfl rfl)
theorem dX10_isOther_61 : decode cX10_isOther 61 = .ok (.ldc_w 273, 3) := dk_19 1 17 (dk_at dksX10_isOther_2 14 rfl rfl)
theorem dX10_isOther_64 : decode cX10_isOther 64 = .ok (.invokestatic 250, 3) := dk_184 0 250 (dk_at dksX10_isOther_2 17 rfl rfl)
theorem dX10_isOther_67 : decode cX10_isOther 67 = .ok (.if_icmp .ne 7, 3) := dk_160 0 7 (dk_at dksX10_isOther_2 20 rfl rfl)
theorem dX10_isOther_70 : decode cX10_isOther 70 = .ok (.iconst 1, 1) := dk_4 (dk_at dksX10_isOther_2 23 rfl rfl)
theorem dX10_isOther_71 : decode cX10_isOther 71 = .ok (.goto 4, 3) := dk_167 0 4 (dk_at dksX10_isOther_3 0 rfl rfl)
theorem dX10_isOther_74 : decode cX10_isOther 74 = .ok (.iconst 0, 1) := dk_3 (dk_at dksX10_isOther_3 3 rfl rfl)
theorem dX10_isOther_75 : decode cX10_isOther 75 = .ok (.ireturn, 1) := dk_172 (dk_at dksX10_isOther_3 4 rfl rfl)
abbrev cX10_wrong : ByteArray := prog_19_method_7_code
def yX10_wrong : MethodName := ⟨RX10, "wrong", "(II)V"⟩
def dkwX10_wrong_0 : List UInt8 := [42, 180, 0, 153, 2, 159, 0, 4, 177, 42, 28, 181, 0, 153, 42, 27, 181, 0, 156, 177]
abbrev dktX10_wrong_0 : List UInt8 := dkwX10_wrong_0 ++ []
theorem dksX10_wrong_0 : cX10_wrong.data.toList.drop 0 = dktX10_wrong_0 := by decide +kernel
theorem dX10_wrong_0 : decode cX10_wrong 0 = .ok (.aload_n 0, 1) := dk_42 (dk_at dksX10_wrong_0 0 rfl rfl)
theorem dX10_wrong_1 : decode cX10_wrong 1 = .ok (.getfield 153, 3) := dk_180 0 153 (dk_at dksX10_wrong_0 1 rfl rfl)
theorem dX10_wrong_4 : decode cX10_wrong 4 = .ok (.iconst (-1), 1) := dk_2 (dk_at dksX10_wrong_0 4 rfl rfl)
theorem dX10_wrong_5 : decode cX10_wrong 5 = .ok (.if_icmp .eq 4, 3) := dk_159 0 4 (dk_at dksX10_wrong_0 5 rfl rfl)
theorem dX10_wrong_8 : decode cX10_wrong 8 = .ok (.return_, 1) := dk_177 (dk_at dksX10_wrong_0 8 rfl rfl)
theorem dX10_wrong_9 : decode cX10_wrong 9 = .ok (.aload_n 0, 1) := dk_42 (dk_at dksX10_wrong_0 9 rfl rfl)
theorem dX10_wrong_10 : decode cX10_wrong 10 = .ok (.iload_n 2, 1) := dk_28 (dk_at dksX10_wrong_0 10 rfl rfl)
theorem dX10_wrong_11 : decode cX10_wrong 11 = .ok (.putfield 153, 3) := dk_181 0 153 (dk_at dksX10_wrong_0 11 rfl rfl)
theorem dX10_wrong_14 : decode cX10_wrong 14 = .ok (.aload_n 0, 1) := dk_42 (dk_at dksX10_wrong_0 14 rfl rfl)
theorem dX10_wrong_15 : decode cX10_wrong 15 = .ok (.iload_n 1, 1) := dk_27 (dk_at dksX10_wrong_0 15 rfl rfl)
theorem dX10_wrong_16 : decode cX10_wrong 16 = .ok (.putfield 156, 3) := dk_181 0 156 (dk_at dksX10_wrong_0 16 rfl rfl)
theorem dX10_wrong_19 : decode cX10_wrong 19 = .ok (.return_, 1) := dk_177 (dk_at dksX10_wrong_0 19 rfl rfl)
abbrev cX10_isFull : ByteArray := prog_19_method_27_code
def yX10_isFull : MethodName := ⟨RX10, "isFull", "(I)Z"⟩
def dkwX10_isFull_6 : List UInt8 := [167, 0, 4, 3, 172]
abbrev dktX10_isFull_6 : List UInt8 := dkwX10_isFull_6 ++ []
def dkwX10_isFull_5 : List UInt8 := [167, 0, 4, 3, 172, 27, 19, 1, 16, 184, 0, 250, 160, 0, 15, 42, 180, 0, 211, 7, 160, 0, 7, 4]
abbrev dktX10_isFull_5 : List UInt8 := dkwX10_isFull_5 ++ dktX10_isFull_6
def dkwX10_isFull_4 : List UInt8 := [3, 172, 27, 19, 1, 4, 184, 0, 250, 160, 0, 18, 42, 180, 0, 208, 16, 8, 160, 0, 7, 4]
abbrev dktX10_isFull_4 : List UInt8 := dkwX10_isFull_4 ++ dktX10_isFull_5
def dkwX10_isFull_3 : List UInt8 := [172, 27, 19, 1, 3, 184, 0, 250, 160, 0, 18, 42, 180, 0, 205, 16, 6, 160, 0, 7, 4, 167, 0, 4]
abbrev dktX10_isFull_3 : List UInt8 := dkwX10_isFull_3 ++ dktX10_isFull_4
def dkwX10_isFull_2 : List UInt8 := [27, 19, 1, 7, 184, 0, 250, 160, 0, 18, 42, 180, 0, 202, 16, 6, 160, 0, 7, 4, 167, 0, 4, 3]
abbrev dktX10_isFull_2 : List UInt8 := dkwX10_isFull_2 ++ dktX10_isFull_3
def dkwX10_isFull_1 : List UInt8 := [19, 1, 2, 184, 0, 250, 160, 0, 18, 42, 180, 0, 199, 16, 12, 160, 0, 7, 4, 167, 0, 4, 3, 172]
abbrev dktX10_isFull_1 : List UInt8 := dkwX10_isFull_1 ++ dktX10_isFull_2
def dkwX10_isFull_0 : List UInt8 := [27, 18, 248, 184, 0, 250, 160, 0, 17, 42, 180, 0, 196, 7, 160, 0, 7, 4, 167, 0, 4, 3, 172, 27]
abbrev dktX10_isFull_0 : List UInt8 := dkwX10_isFull_0 ++ dktX10_isFull_1
theorem dksX10_isFull_0 : cX10_isFull.data.toList.drop 0 = dktX10_isFull_0 := by decide +kernel
theorem dksX10_isFull_1 : cX10_isFull.data.toList.drop 24 = dktX10_isFull_1 := dk_seg dksX10_isFull_0 24 rfl rfl
theorem dksX10_isFull_2 : cX10_isFull.data.toList.drop 48 = dktX10_isFull_2 := dk_seg dksX10_isFull_1 24 rfl rfl
theorem dksX10_isFull_3 : cX10_isFull.data.toList.drop 72 = dktX10_isFull_3 := dk_seg dksX10_isFull_2 24 rfl rfl
theorem dksX10_isFull_4 : cX10_isFull.data.toList.drop 96 = dktX10_isFull_4 := dk_seg dksX10_isFull_3 24 rfl rfl
theorem dksX10_isFull_5 : cX10_isFull.data.toList.drop 118 = dktX10_isFull_5 := dk_seg dksX10_isFull_4 22 rfl rfl
theorem dksX10_isFull_6 : cX10_isFull.data.toList.drop 142 = dktX10_isFull_6 := dk_seg dksX10_isFull_5 24 rfl rfl
theorem dX10_isFull_0 : decode cX10_isFull 0 = .ok (.iload_n 1, 1) := dk_27 (dk_at dksX10_isFull_0 0 rfl rfl)
theorem dX10_isFull_1 : decode cX10_isFull 1 = .ok (.ldc 248, 2) := dk_18 248 (dk_at dksX10_isFull_0 1 rfl rfl)
theorem dX10_isFull_3 : decode cX10_isFull 3 = .ok (.invokestatic 250, 3) := dk_184 0 250 (dk_at dksX10_isFull_0 3 rfl rfl)
theorem dX10_isFull_6 : decode cX10_isFull 6 = .ok (.if_icmp .ne 17, 3) := dk_160 0 17 (dk_at dksX10_isFull_0 6 rfl rfl)
theorem dX10_isFull_9 : decode cX10_isFull 9 = .ok (.aload_n 0, 1) := dk_42 (dk_at dksX10_isFull_0 9 rfl rfl)
theorem dX10_isFull_10 : decode cX10_isFull 10 = .ok (.getfield 196, 3) := dk_180 0 196 (dk_at dksX10_isFull_0 10 rfl rfl)
theorem dX10_isFull_13 : decode cX10_isFull 13 = .ok (.iconst 4, 1) := dk_7 (dk_at dksX10_isFull_0 13 rfl rfl)
theorem dX10_isFull_14 : decode cX10_isFull 14 = .ok (.if_icmp .ne 7, 3) := dk_160 0 7 (dk_at dksX10_isFull_0 14 rfl rfl)
theorem dX10_isFull_17 : decode cX10_isFull 17 = .ok (.iconst 1, 1) := dk_4 (dk_at dksX10_isFull_0 17 rfl rfl)
theorem dX10_isFull_18 : decode cX10_isFull 18 = .ok (.goto 4, 3) := dk_167 0 4 (dk_at dksX10_isFull_0 18 rfl rfl)
theorem dX10_isFull_21 : decode cX10_isFull 21 = .ok (.iconst 0, 1) := dk_3 (dk_at dksX10_isFull_0 21 rfl rfl)
theorem dX10_isFull_22 : decode cX10_isFull 22 = .ok (.ireturn, 1) := dk_172 (dk_at dksX10_isFull_0 22 rfl rfl)
theorem dX10_isFull_23 : decode cX10_isFull 23 = .ok (.iload_n 1, 1) := dk_27 (dk_at dksX10_isFull_0 23 rfl rfl)
theorem dX10_isFull_24 : decode cX10_isFull 24 = .ok (.ldc_w 258, 3) := dk_19 1 2 (dk_at dksX10_isFull_1 0 rfl rfl)
theorem dX10_isFull_27 : decode cX10_isFull 27 = .ok (.invokestatic 250, 3) := dk_184 0 250 (dk_at dksX10_isFull_1 3 rfl rfl)
theorem dX10_isFull_30 : decode cX10_isFull 30 = .ok (.if_icmp .ne 18, 3) := dk_160 0 18 (dk_at dksX10_isFull_1 6 rfl rfl)
theorem dX10_isFull_33 : decode cX10_isFull 33 = .ok (.aload_n 0, 1) := dk_42 (dk_at dksX10_isFull_1 9 rfl rfl)
theorem dX10_isFull_34 : decode cX10_isFull 34 = .ok (.getfield 199, 3) := dk_180 0 199 (dk_at dksX10_isFull_1 10 rfl rfl)
theorem dX10_isFull_37 : decode cX10_isFull 37 = .ok (.bipush 12, 2) := dk_16 12 (dk_at dksX10_isFull_1 13 rfl rfl)
theorem dX10_isFull_39 : decode cX10_isFull 39 = .ok (.if_icmp .ne 7, 3) := dk_160 0 7 (dk_at dksX10_isFull_1 15 rfl rfl)
theorem dX10_isFull_42 : decode cX10_isFull 42 = .ok (.iconst 1, 1) := dk_4 (dk_at dksX10_isFull_1 18 rfl rfl)
theorem dX10_isFull_43 : decode cX10_isFull 43 = .ok (.goto 4, 3) := dk_167 0 4 (dk_at dksX10_isFull_1 19 rfl rfl)
theorem dX10_isFull_46 : decode cX10_isFull 46 = .ok (.iconst 0, 1) := dk_3 (dk_at dksX10_isFull_1 22 rfl rfl)
theorem dX10_isFull_47 : decode cX10_isFull 47 = .ok (.ireturn, 1) := dk_172 (dk_at dksX10_isFull_1 23 rfl rfl)
theorem dX10_isFull_48 : decode cX10_isFull 48 = .ok (.iload_n 1, 1) := dk_27 (dk_at dksX10_isFull_2 0 rfl rfl)
theorem dX10_isFull_49 : decode cX10_isFull 49 = .ok (.ldc_w 263, 3) := dk_19 1 7 (dk_at dksX10_isFull_2 1 rfl rfl)
theorem dX10_isFull_52 : decode cX10_isFull 52 = .ok (.invokestatic 250, 3) := dk_184 0 250 (dk_at dksX10_isFull_2 4 rfl rfl)
theorem dX10_isFull_55 : decode cX10_isFull 55 = .ok (.if_icmp .ne 18, 3) := dk_160 0 18 (dk_at dksX10_isFull_2 7 rfl rfl)
theorem dX10_isFull_58 : decode cX10_isFull 58 = .ok (.aload_n 0, 1) := dk_42 (dk_at dksX10_isFull_2 10 rfl rfl)
theorem dX10_isFull_59 : decode cX10_isFull 59 = .ok (.getfield 202, 3) := dk_180 0 202 (dk_at dksX10_isFull_2 11 rfl rfl)
theorem dX10_isFull_62 : decode cX10_isFull 62 = .ok (.bipush 6, 2) := dk_16 6 (dk_at dksX10_isFull_2 14 rfl rfl)
theorem dX10_isFull_64 : decode cX10_isFull 64 = .ok (.if_icmp .ne 7, 3) := dk_160 0 7 (dk_at dksX10_isFull_2 16 rfl rfl)
theorem dX10_isFull_67 : decode cX10_isFull 67 = .ok (.iconst 1, 1) := dk_4 (dk_at dksX10_isFull_2 19 rfl rfl)
theorem dX10_isFull_68 : decode cX10_isFull 68 = .ok (.goto 4, 3) := dk_167 0 4 (dk_at dksX10_isFull_2 20 rfl rfl)
theorem dX10_isFull_71 : decode cX10_isFull 71 = .ok (.iconst 0, 1) := dk_3 (dk_at dksX10_isFull_2 23 rfl rfl)
theorem dX10_isFull_72 : decode cX10_isFull 72 = .ok (.ireturn, 1) := dk_172 (dk_at dksX10_isFull_3 0 rfl rfl)
theorem dX10_isFull_73 : decode cX10_isFull 73 = .ok (.iload_n 1, 1) := dk_27 (dk_at dksX10_isFull_3 1 rfl rfl)
theorem dX10_isFull_74 : decode cX10_isFull 74 = .ok (.ldc_w 259, 3) := dk_19 1 3 (dk_at dksX10_isFull_3 2 rfl rfl)
theorem dX10_isFull_77 : decode cX10_isFull 77 = .ok (.invokestatic 250, 3) := dk_184 0 250 (dk_at dksX10_isFull_3 5 rfl rfl)
theorem dX10_isFull_80 : decode cX10_isFull 80 = .ok (.if_icmp .ne 18, 3) := dk_160 0 18 (dk_at dksX10_isFull_3 8 rfl rfl)
theorem dX10_isFull_83 : decode cX10_isFull 83 = .ok (.aload_n 0, 1) := dk_42 (dk_at dksX10_isFull_3 11 rfl rfl)
theorem dX10_isFull_84 : decode cX10_isFull 84 = .ok (.getfield 205, 3) := dk_180 0 205 (dk_at dksX10_isFull_3 12 rfl rfl)
theorem dX10_isFull_87 : decode cX10_isFull 87 = .ok (.bipush 6, 2) := dk_16 6 (dk_at dksX10_isFull_3 15 rfl rfl)
theorem dX10_isFull_89 : decode cX10_isFull 89 = .ok (.if_icmp .ne 7, 3) := dk_160 0 7 (dk_at dksX10_isFull_3 17 rfl rfl)
theorem dX10_isFull_92 : decode cX10_isFull 92 = .ok (.iconst 1, 1) := dk_4 (dk_at dksX10_isFull_3 20 rfl rfl)
theorem dX10_isFull_93 : decode cX10_isFull 93 = .ok (.goto 4, 3) := dk_167 0 4 (dk_at dksX10_isFull_3 21 rfl rfl)
theorem dX10_isFull_96 : decode cX10_isFull 96 = .ok (.iconst 0, 1) := dk_3 (dk_at dksX10_isFull_4 0 rfl rfl)
theorem dX10_isFull_97 : decode cX10_isFull 97 = .ok (.ireturn, 1) := dk_172 (dk_at dksX10_isFull_4 1 rfl rfl)
theorem dX10_isFull_98 : decode cX10_isFull 98 = .ok (.iload_n 1, 1) := dk_27 (dk_at dksX10_isFull_4 2 rfl rfl)
theorem dX10_isFull_99 : decode cX10_isFull 99 = .ok (.ldc_w 260, 3) := dk_19 1 4 (dk_at dksX10_isFull_4 3 rfl rfl)
theorem dX10_isFull_102 : decode cX10_isFull 102 = .ok (.invokestatic 250, 3) := dk_184 0 250 (dk_at dksX10_isFull_4 6 rfl rfl)
theorem dX10_isFull_105 : decode cX10_isFull 105 = .ok (.if_icmp .ne 18, 3) := dk_160 0 18 (dk_at dksX10_isFull_4 9 rfl rfl)
theorem dX10_isFull_108 : decode cX10_isFull 108 = .ok (.aload_n 0, 1) := dk_42 (dk_at dksX10_isFull_4 12 rfl rfl)
theorem dX10_isFull_109 : decode cX10_isFull 109 = .ok (.getfield 208, 3) := dk_180 0 208 (dk_at dksX10_isFull_4 13 rfl rfl)
theorem dX10_isFull_112 : decode cX10_isFull 112 = .ok (.bipush 8, 2) := dk_16 8 (dk_at dksX10_isFull_4 16 rfl rfl)
theorem dX10_isFull_114 : decode cX10_isFull 114 = .ok (.if_icmp .ne 7, 3) := dk_160 0 7 (dk_at dksX10_isFull_4 18 rfl rfl)
theorem dX10_isFull_117 : decode cX10_isFull 117 = .ok (.iconst 1, 1) := dk_4 (dk_at dksX10_isFull_4 21 rfl rfl)
theorem dX10_isFull_118 : decode cX10_isFull 118 = .ok (.goto 4, 3) := dk_167 0 4 (dk_at dksX10_isFull_5 0 rfl rfl)
theorem dX10_isFull_121 : decode cX10_isFull 121 = .ok (.iconst 0, 1) := dk_3 (dk_at dksX10_isFull_5 3 rfl rfl)
theorem dX10_isFull_122 : decode cX10_isFull 122 = .ok (.ireturn, 1) := dk_172 (dk_at dksX10_isFull_5 4 rfl rfl)
theorem dX10_isFull_123 : decode cX10_isFull 123 = .ok (.iload_n 1, 1) := dk_27 (dk_at dksX10_isFull_5 5 rfl rfl)
theorem dX10_isFull_124 : decode cX10_isFull 124 = .ok (.ldc_w 272, 3) := dk_19 1 16 (dk_at dksX10_isFull_5 6 rfl rfl)
theorem dX10_isFull_127 : decode cX10_isFull 127 = .ok (.invokestatic 250, 3) := dk_184 0 250 (dk_at dksX10_isFull_5 9 rfl rfl)
theorem dX10_isFull_130 : decode cX10_isFull 130 = .ok (.if_icmp .ne 15, 3) := dk_160 0 15 (dk_at dksX10_isFull_5 12 rfl rfl)
theorem dX10_isFull_133 : decode cX10_isFull 133 = .ok (.aload_n 0, 1) := dk_42 (dk_at dksX10_isFull_5 15 rfl rfl)
theorem dX10_isFull_134 : decode cX10_isFull 134 = .ok (.getfield 211, 3) := dk_180 0 211 (dk_at dksX10_isFull_5 16 rfl rfl)
theorem dX10_isFull_137 : decode cX10_isFull 137 = .ok (.iconst 4, 1) := dk_7 (dk_at dksX10_isFull_5 19 rfl rfl)
theorem dX10_isFull_138 : decode cX10_isFull 138 = .ok (.if_icmp .ne 7, 3) := dk_160 0 7 (dk_at dksX10_isFull_5 20 rfl rfl)
theorem dX10_isFull_141 : decode cX10_isFull 141 = .ok (.iconst 1, 1) := dk_4 (dk_at dksX10_isFull_5 23 rfl rfl)
theorem dX10_isFull_142 : decode cX10_isFull 142 = .ok (.goto 4, 3) := dk_167 0 4 (dk_at dksX10_isFull_6 0 rfl rfl)
theorem dX10_isFull_145 : decode cX10_isFull 145 = .ok (.iconst 0, 1) := dk_3 (dk_at dksX10_isFull_6 3 rfl rfl)
theorem dX10_isFull_146 : decode cX10_isFull 146 = .ok (.ireturn, 1) := dk_172 (dk_at dksX10_isFull_6 4 rfl rfl)
abbrev cX10_pass : ByteArray := prog_19_method_13_code
def yX10_pass : MethodName := ⟨RX10, "pass", "()V"⟩
def dkwX10_pass_1 : List UInt8 := [153, 0, 16, 42, 89, 180, 0, 159, 4, 96, 181, 0, 159, 167, 255, 220, 177]
abbrev dktX10_pass_1 : List UInt8 := dkwX10_pass_1 ++ []
def dkwX10_pass_0 : List UInt8 := [42, 180, 0, 159, 42, 180, 0, 162, 162, 0, 31, 42, 180, 0, 20, 42, 180, 0, 159, 46, 184, 0, 169]
abbrev dktX10_pass_0 : List UInt8 := dkwX10_pass_0 ++ dktX10_pass_1
theorem dksX10_pass_0 : cX10_pass.data.toList.drop 0 = dktX10_pass_0 := by decide +kernel
theorem dksX10_pass_1 : cX10_pass.data.toList.drop 23 = dktX10_pass_1 := dk_seg dksX10_pass_0 23 rfl rfl
theorem dX10_pass_0 : decode cX10_pass 0 = .ok (.aload_n 0, 1) := dk_42 (dk_at dksX10_pass_0 0 rfl rfl)
theorem dX10_pass_1 : decode cX10_pass 1 = .ok (.getfield 159, 3) := dk_180 0 159 (dk_at dksX10_pass_0 1 rfl rfl)
theorem dX10_pass_4 : decode cX10_pass 4 = .ok (.aload_n 0, 1) := dk_42 (dk_at dksX10_pass_0 4 rfl rfl)
theorem dX10_pass_5 : decode cX10_pass 5 = .ok (.getfield 162, 3) := dk_180 0 162 (dk_at dksX10_pass_0 5 rfl rfl)
theorem dX10_pass_8 : decode cX10_pass 8 = .ok (.if_icmp .ge 31, 3) := dk_162 0 31 (dk_at dksX10_pass_0 8 rfl rfl)
theorem dX10_pass_11 : decode cX10_pass 11 = .ok (.aload_n 0, 1) := dk_42 (dk_at dksX10_pass_0 11 rfl rfl)
theorem dX10_pass_12 : decode cX10_pass 12 = .ok (.getfield 20, 3) := dk_180 0 20 (dk_at dksX10_pass_0 12 rfl rfl)
theorem dX10_pass_15 : decode cX10_pass 15 = .ok (.aload_n 0, 1) := dk_42 (dk_at dksX10_pass_0 15 rfl rfl)
theorem dX10_pass_16 : decode cX10_pass 16 = .ok (.getfield 159, 3) := dk_180 0 159 (dk_at dksX10_pass_0 16 rfl rfl)
theorem dX10_pass_19 : decode cX10_pass 19 = .ok (.iaload, 1) := dk_46 (dk_at dksX10_pass_0 19 rfl rfl)
theorem dX10_pass_20 : decode cX10_pass 20 = .ok (.invokestatic 169, 3) := dk_184 0 169 (dk_at dksX10_pass_0 20 rfl rfl)
theorem dX10_pass_23 : decode cX10_pass 23 = .ok (.ifCond .eq 16, 3) := dk_153 0 16 (dk_at dksX10_pass_1 0 rfl rfl)
theorem dX10_pass_26 : decode cX10_pass 26 = .ok (.aload_n 0, 1) := dk_42 (dk_at dksX10_pass_1 3 rfl rfl)
theorem dX10_pass_27 : decode cX10_pass 27 = .ok (.dup, 1) := dk_89 (dk_at dksX10_pass_1 4 rfl rfl)
theorem dX10_pass_28 : decode cX10_pass 28 = .ok (.getfield 159, 3) := dk_180 0 159 (dk_at dksX10_pass_1 5 rfl rfl)
theorem dX10_pass_31 : decode cX10_pass 31 = .ok (.iconst 1, 1) := dk_4 (dk_at dksX10_pass_1 8 rfl rfl)
theorem dX10_pass_32 : decode cX10_pass 32 = .ok (.iadd, 1) := dk_96 (dk_at dksX10_pass_1 9 rfl rfl)
theorem dX10_pass_33 : decode cX10_pass 33 = .ok (.putfield 159, 3) := dk_181 0 159 (dk_at dksX10_pass_1 10 rfl rfl)
theorem dX10_pass_36 : decode cX10_pass 36 = .ok (.goto (-36), 3) := dk_167 255 220 (dk_at dksX10_pass_1 13 rfl rfl)
theorem dX10_pass_39 : decode cX10_pass 39 = .ok (.return_, 1) := dk_177 (dk_at dksX10_pass_1 16 rfl rfl)
abbrev cX10_readThings : ByteArray := prog_19_method_23_code
def yX10_readThings : MethodName := ⟨RX10, "readThings", "(I)V"⟩
def dkwX10_readThings_11 : List UInt8 := [42, 89, 180, 0, 211, 4, 96, 181, 0, 211, 177]
abbrev dktX10_readThings_11 : List UInt8 := dkwX10_readThings_11 ++ []
def dkwX10_readThings_10 : List UInt8 := [162, 0, 24, 42, 180, 0, 38, 28, 29, 96, 42, 3, 16, 16, 182, 0, 254, 79, 132, 3, 1, 167, 255, 233]
abbrev dktX10_readThings_10 : List UInt8 := dkwX10_readThings_10 ++ dktX10_readThings_11
def dkwX10_readThings_9 : List UInt8 := [7, 42, 180, 0, 211, 104, 61, 42, 180, 0, 38, 28, 42, 4, 16, 16, 182, 0, 254, 79, 4, 62, 29, 7]
abbrev dktX10_readThings_9 : List UInt8 := dkwX10_readThings_9 ++ dktX10_readThings_10
def dkwX10_readThings_8 : List UInt8 := [180, 0, 208, 42, 3, 16, 15, 182, 0, 254, 79, 42, 89, 180, 0, 208, 4, 96, 181, 0, 208, 167, 0, 61]
abbrev dktX10_readThings_8 : List UInt8 := dkwX10_readThings_8 ++ dktX10_readThings_9
def dkwX10_readThings_7 : List UInt8 := [4, 96, 181, 0, 205, 167, 0, 100, 27, 19, 1, 4, 184, 0, 250, 160, 0, 32, 42, 180, 0, 35, 42]
abbrev dktX10_readThings_7 : List UInt8 := dkwX10_readThings_7 ++ dktX10_readThings_8
def dkwX10_readThings_6 : List UInt8 := [160, 0, 32, 42, 180, 0, 32, 42, 180, 0, 205, 42, 4, 16, 9, 182, 0, 254, 79, 42, 89, 180, 0, 205]
abbrev dktX10_readThings_6 : List UInt8 := dkwX10_readThings_6 ++ dktX10_readThings_7
def dkwX10_readThings_5 : List UInt8 := [7, 96, 3, 79, 42, 89, 180, 0, 199, 4, 96, 181, 0, 199, 167, 0, 139, 27, 19, 1, 3, 184, 0, 250]
abbrev dktX10_readThings_5 : List UInt8 := dkwX10_readThings_5 ++ dktX10_readThings_6
def dkwX10_readThings_4 : List UInt8 := [182, 0, 254, 79, 42, 180, 0, 26, 28, 6, 96, 42, 3, 16, 18, 182, 0, 254, 79, 42, 180, 0, 26, 28]
abbrev dktX10_readThings_4 : List UInt8 := dkwX10_readThings_4 ++ dktX10_readThings_5
def dkwX10_readThings_3 : List UInt8 := [180, 0, 26, 28, 4, 96, 42, 3, 4, 182, 0, 254, 79, 42, 180, 0, 26, 28, 5, 96, 42, 4, 5]
abbrev dktX10_readThings_3 : List UInt8 := dkwX10_readThings_3 ++ dktX10_readThings_4
def dkwX10_readThings_2 : List UInt8 := [8, 42, 180, 0, 199, 104, 61, 42, 180, 0, 26, 28, 3, 96, 42, 4, 16, 30, 182, 0, 254, 79, 42]
abbrev dktX10_readThings_2 : List UInt8 := dkwX10_readThings_2 ++ dktX10_readThings_3
def dkwX10_readThings_1 : List UInt8 := [79, 42, 89, 180, 0, 196, 4, 96, 181, 0, 196, 167, 0, 236, 27, 19, 1, 2, 184, 0, 250, 160, 0, 90]
abbrev dktX10_readThings_1 : List UInt8 := dkwX10_readThings_1 ++ dktX10_readThings_2
def dkwX10_readThings_0 : List UInt8 := [27, 18, 248, 184, 0, 250, 160, 0, 32, 42, 180, 0, 23, 42, 180, 0, 196, 42, 4, 16, 9, 182, 0, 254]
abbrev dktX10_readThings_0 : List UInt8 := dkwX10_readThings_0 ++ dktX10_readThings_1
theorem dksX10_readThings_0 : cX10_readThings.data.toList.drop 0 = dktX10_readThings_0 := by decide +kernel
theorem dksX10_readThings_1 : cX10_readThings.data.toList.drop 24 = dktX10_readThings_1 := dk_seg dksX10_readThings_0 24 rfl rfl
theorem dksX10_readThings_2 : cX10_readThings.data.toList.drop 48 = dktX10_readThings_2 := dk_seg dksX10_readThings_1 24 rfl rfl
theorem dksX10_readThings_3 : cX10_readThings.data.toList.drop 71 = dktX10_readThings_3 := dk_seg dksX10_readThings_2 23 rfl rfl
theorem dksX10_readThings_4 : cX10_readThings.data.toList.drop 94 = dktX10_readThings_4 := dk_seg dksX10_readThings_3 23 rfl rfl
theorem dksX10_readThings_5 : cX10_readThings.data.toList.drop 118 = dktX10_readThings_5 := dk_seg dksX10_readThings_4 24 rfl rfl
theorem dksX10_readThings_6 : cX10_readThings.data.toList.drop 142 = dktX10_readThings_6 := dk_seg dksX10_readThings_5 24 rfl rfl
theorem dksX10_readThings_7 : cX10_readThings.data.toList.drop 166 = dktX10_readThings_7 := dk_seg dksX10_readThings_6 24 rfl rfl
theorem dksX10_readThings_8 : cX10_readThings.data.toList.drop 189 = dktX10_readThings_8 := dk_seg dksX10_readThings_7 23 rfl rfl
theorem dksX10_readThings_9 : cX10_readThings.data.toList.drop 213 = dktX10_readThings_9 := dk_seg dksX10_readThings_8 24 rfl rfl
theorem dksX10_readThings_10 : cX10_readThings.data.toList.drop 237 = dktX10_readThings_10 := dk_seg dksX10_readThings_9 24 rfl rfl
theorem dksX10_readThings_11 : cX10_readThings.data.toList.drop 261 = dktX10_readThings_11 := dk_seg dksX10_readThings_10 24 rfl rfl
theorem dX10_readThings_0 : decode cX10_readThings 0 = .ok (.iload_n 1, 1) := dk_27 (dk_at dksX10_readThings_0 0 rfl rfl)
theorem dX10_readThings_1 : decode cX10_readThings 1 = .ok (.ldc 248, 2) := dk_18 248 (dk_at dksX10_readThings_0 1 rfl rfl)
theorem dX10_readThings_3 : decode cX10_readThings 3 = .ok (.invokestatic 250, 3) := dk_184 0 250 (dk_at dksX10_readThings_0 3 rfl rfl)
theorem dX10_readThings_6 : decode cX10_readThings 6 = .ok (.if_icmp .ne 32, 3) := dk_160 0 32 (dk_at dksX10_readThings_0 6 rfl rfl)
theorem dX10_readThings_9 : decode cX10_readThings 9 = .ok (.aload_n 0, 1) := dk_42 (dk_at dksX10_readThings_0 9 rfl rfl)
theorem dX10_readThings_10 : decode cX10_readThings 10 = .ok (.getfield 23, 3) := dk_180 0 23 (dk_at dksX10_readThings_0 10 rfl rfl)
theorem dX10_readThings_13 : decode cX10_readThings 13 = .ok (.aload_n 0, 1) := dk_42 (dk_at dksX10_readThings_0 13 rfl rfl)
theorem dX10_readThings_14 : decode cX10_readThings 14 = .ok (.getfield 196, 3) := dk_180 0 196 (dk_at dksX10_readThings_0 14 rfl rfl)
theorem dX10_readThings_17 : decode cX10_readThings 17 = .ok (.aload_n 0, 1) := dk_42 (dk_at dksX10_readThings_0 17 rfl rfl)
theorem dX10_readThings_18 : decode cX10_readThings 18 = .ok (.iconst 1, 1) := dk_4 (dk_at dksX10_readThings_0 18 rfl rfl)
theorem dX10_readThings_19 : decode cX10_readThings 19 = .ok (.bipush 9, 2) := dk_16 9 (dk_at dksX10_readThings_0 19 rfl rfl)
theorem dX10_readThings_21 : decode cX10_readThings 21 = .ok (.invokevirtual 254, 3) := dk_182 0 254 (dk_at dksX10_readThings_0 21 rfl rfl)
theorem dX10_readThings_24 : decode cX10_readThings 24 = .ok (.iastore, 1) := dk_79 (dk_at dksX10_readThings_1 0 rfl rfl)
theorem dX10_readThings_25 : decode cX10_readThings 25 = .ok (.aload_n 0, 1) := dk_42 (dk_at dksX10_readThings_1 1 rfl rfl)
theorem dX10_readThings_26 : decode cX10_readThings 26 = .ok (.dup, 1) := dk_89 (dk_at dksX10_readThings_1 2 rfl rfl)
theorem dX10_readThings_27 : decode cX10_readThings 27 = .ok (.getfield 196, 3) := dk_180 0 196 (dk_at dksX10_readThings_1 3 rfl rfl)
theorem dX10_readThings_30 : decode cX10_readThings 30 = .ok (.iconst 1, 1) := dk_4 (dk_at dksX10_readThings_1 6 rfl rfl)
theorem dX10_readThings_31 : decode cX10_readThings 31 = .ok (.iadd, 1) := dk_96 (dk_at dksX10_readThings_1 7 rfl rfl)
theorem dX10_readThings_32 : decode cX10_readThings 32 = .ok (.putfield 196, 3) := dk_181 0 196 (dk_at dksX10_readThings_1 8 rfl rfl)
theorem dX10_readThings_35 : decode cX10_readThings 35 = .ok (.goto 236, 3) := dk_167 0 236 (dk_at dksX10_readThings_1 11 rfl rfl)
theorem dX10_readThings_38 : decode cX10_readThings 38 = .ok (.iload_n 1, 1) := dk_27 (dk_at dksX10_readThings_1 14 rfl rfl)
theorem dX10_readThings_39 : decode cX10_readThings 39 = .ok (.ldc_w 258, 3) := dk_19 1 2 (dk_at dksX10_readThings_1 15 rfl rfl)
theorem dX10_readThings_42 : decode cX10_readThings 42 = .ok (.invokestatic 250, 3) := dk_184 0 250 (dk_at dksX10_readThings_1 18 rfl rfl)
theorem dX10_readThings_45 : decode cX10_readThings 45 = .ok (.if_icmp .ne 90, 3) := dk_160 0 90 (dk_at dksX10_readThings_1 21 rfl rfl)
theorem dX10_readThings_48 : decode cX10_readThings 48 = .ok (.iconst 5, 1) := dk_8 (dk_at dksX10_readThings_2 0 rfl rfl)
theorem dX10_readThings_49 : decode cX10_readThings 49 = .ok (.aload_n 0, 1) := dk_42 (dk_at dksX10_readThings_2 1 rfl rfl)
theorem dX10_readThings_50 : decode cX10_readThings 50 = .ok (.getfield 199, 3) := dk_180 0 199 (dk_at dksX10_readThings_2 2 rfl rfl)
theorem dX10_readThings_53 : decode cX10_readThings 53 = .ok (.imul, 1) := dk_104 (dk_at dksX10_readThings_2 5 rfl rfl)
theorem dX10_readThings_54 : decode cX10_readThings 54 = .ok (.istore_n 2, 1) := dk_61 (dk_at dksX10_readThings_2 6 rfl rfl)
theorem dX10_readThings_55 : decode cX10_readThings 55 = .ok (.aload_n 0, 1) := dk_42 (dk_at dksX10_readThings_2 7 rfl rfl)
theorem dX10_readThings_56 : decode cX10_readThings 56 = .ok (.getfield 26, 3) := dk_180 0 26 (dk_at dksX10_readThings_2 8 rfl rfl)
theorem dX10_readThings_59 : decode cX10_readThings 59 = .ok (.iload_n 2, 1) := dk_28 (dk_at dksX10_readThings_2 11 rfl rfl)
theorem dX10_readThings_60 : decode cX10_readThings 60 = .ok (.iconst 0, 1) := dk_3 (dk_at dksX10_readThings_2 12 rfl rfl)
theorem dX10_readThings_61 : decode cX10_readThings 61 = .ok (.iadd, 1) := dk_96 (dk_at dksX10_readThings_2 13 rfl rfl)
theorem dX10_readThings_62 : decode cX10_readThings 62 = .ok (.aload_n 0, 1) := dk_42 (dk_at dksX10_readThings_2 14 rfl rfl)
theorem dX10_readThings_63 : decode cX10_readThings 63 = .ok (.iconst 1, 1) := dk_4 (dk_at dksX10_readThings_2 15 rfl rfl)
theorem dX10_readThings_64 : decode cX10_readThings 64 = .ok (.bipush 30, 2) := dk_16 30 (dk_at dksX10_readThings_2 16 rfl rfl)
theorem dX10_readThings_66 : decode cX10_readThings 66 = .ok (.invokevirtual 254, 3) := dk_182 0 254 (dk_at dksX10_readThings_2 18 rfl rfl)
theorem dX10_readThings_69 : decode cX10_readThings 69 = .ok (.iastore, 1) := dk_79 (dk_at dksX10_readThings_2 21 rfl rfl)
theorem dX10_readThings_70 : decode cX10_readThings 70 = .ok (.aload_n 0, 1) := dk_42 (dk_at dksX10_readThings_2 22 rfl rfl)
theorem dX10_readThings_71 : decode cX10_readThings 71 = .ok (.getfield 26, 3) := dk_180 0 26 (dk_at dksX10_readThings_3 0 rfl rfl)
theorem dX10_readThings_74 : decode cX10_readThings 74 = .ok (.iload_n 2, 1) := dk_28 (dk_at dksX10_readThings_3 3 rfl rfl)
theorem dX10_readThings_75 : decode cX10_readThings 75 = .ok (.iconst 1, 1) := dk_4 (dk_at dksX10_readThings_3 4 rfl rfl)
theorem dX10_readThings_76 : decode cX10_readThings 76 = .ok (.iadd, 1) := dk_96 (dk_at dksX10_readThings_3 5 rfl rfl)
theorem dX10_readThings_77 : decode cX10_readThings 77 = .ok (.aload_n 0, 1) := dk_42 (dk_at dksX10_readThings_3 6 rfl rfl)
theorem dX10_readThings_78 : decode cX10_readThings 78 = .ok (.iconst 0, 1) := dk_3 (dk_at dksX10_readThings_3 7 rfl rfl)
theorem dX10_readThings_79 : decode cX10_readThings 79 = .ok (.iconst 1, 1) := dk_4 (dk_at dksX10_readThings_3 8 rfl rfl)
theorem dX10_readThings_80 : decode cX10_readThings 80 = .ok (.invokevirtual 254, 3) := dk_182 0 254 (dk_at dksX10_readThings_3 9 rfl rfl)
theorem dX10_readThings_83 : decode cX10_readThings 83 = .ok (.iastore, 1) := dk_79 (dk_at dksX10_readThings_3 12 rfl rfl)
theorem dX10_readThings_84 : decode cX10_readThings 84 = .ok (.aload_n 0, 1) := dk_42 (dk_at dksX10_readThings_3 13 rfl rfl)
theorem dX10_readThings_85 : decode cX10_readThings 85 = .ok (.getfield 26, 3) := dk_180 0 26 (dk_at dksX10_readThings_3 14 rfl rfl)
theorem dX10_readThings_88 : decode cX10_readThings 88 = .ok (.iload_n 2, 1) := dk_28 (dk_at dksX10_readThings_3 17 rfl rfl)
theorem dX10_readThings_89 : decode cX10_readThings 89 = .ok (.iconst 2, 1) := dk_5 (dk_at dksX10_readThings_3 18 rfl rfl)
theorem dX10_readThings_90 : decode cX10_readThings 90 = .ok (.iadd, 1) := dk_96 (dk_at dksX10_readThings_3 19 rfl rfl)
theorem dX10_readThings_91 : decode cX10_readThings 91 = .ok (.aload_n 0, 1) := dk_42 (dk_at dksX10_readThings_3 20 rfl rfl)
theorem dX10_readThings_92 : decode cX10_readThings 92 = .ok (.iconst 1, 1) := dk_4 (dk_at dksX10_readThings_3 21 rfl rfl)
theorem dX10_readThings_93 : decode cX10_readThings 93 = .ok (.iconst 2, 1) := dk_5 (dk_at dksX10_readThings_3 22 rfl rfl)
theorem dX10_readThings_94 : decode cX10_readThings 94 = .ok (.invokevirtual 254, 3) := dk_182 0 254 (dk_at dksX10_readThings_4 0 rfl rfl)
theorem dX10_readThings_97 : decode cX10_readThings 97 = .ok (.iastore, 1) := dk_79 (dk_at dksX10_readThings_4 3 rfl rfl)
theorem dX10_readThings_98 : decode cX10_readThings 98 = .ok (.aload_n 0, 1) := dk_42 (dk_at dksX10_readThings_4 4 rfl rfl)
theorem dX10_readThings_99 : decode cX10_readThings 99 = .ok (.getfield 26, 3) := dk_180 0 26 (dk_at dksX10_readThings_4 5 rfl rfl)
theorem dX10_readThings_102 : decode cX10_readThings 102 = .ok (.iload_n 2, 1) := dk_28 (dk_at dksX10_readThings_4 8 rfl rfl)
theorem dX10_readThings_103 : decode cX10_readThings 103 = .ok (.iconst 3, 1) := dk_6 (dk_at dksX10_readThings_4 9 rfl rfl)
theorem dX10_readThings_104 : decode cX10_readThings 104 = .ok (.iadd, 1) := dk_96 (dk_at dksX10_readThings_4 10 rfl rfl)
theorem dX10_readThings_105 : decode cX10_readThings 105 = .ok (.aload_n 0, 1) := dk_42 (dk_at dksX10_readThings_4 11 rfl rfl)
theorem dX10_readThings_106 : decode cX10_readThings 106 = .ok (.iconst 0, 1) := dk_3 (dk_at dksX10_readThings_4 12 rfl rfl)
theorem dX10_readThings_107 : decode cX10_readThings 107 = .ok (.bipush 18, 2) := dk_16 18 (dk_at dksX10_readThings_4 13 rfl rfl)
theorem dX10_readThings_109 : decode cX10_readThings 109 = .ok (.invokevirtual 254, 3) := dk_182 0 254 (dk_at dksX10_readThings_4 15 rfl rfl)
theorem dX10_readThings_112 : decode cX10_readThings 112 = .ok (.iastore, 1) := dk_79 (dk_at dksX10_readThings_4 18 rfl rfl)
theorem dX10_readThings_113 : decode cX10_readThings 113 = .ok (.aload_n 0, 1) := dk_42 (dk_at dksX10_readThings_4 19 rfl rfl)
theorem dX10_readThings_114 : decode cX10_readThings 114 = .ok (.getfield 26, 3) := dk_180 0 26 (dk_at dksX10_readThings_4 20 rfl rfl)
theorem dX10_readThings_117 : decode cX10_readThings 117 = .ok (.iload_n 2, 1) := dk_28 (dk_at dksX10_readThings_4 23 rfl rfl)
theorem dX10_readThings_118 : decode cX10_readThings 118 = .ok (.iconst 4, 1) := dk_7 (dk_at dksX10_readThings_5 0 rfl rfl)
theorem dX10_readThings_119 : decode cX10_readThings 119 = .ok (.iadd, 1) := dk_96 (dk_at dksX10_readThings_5 1 rfl rfl)
theorem dX10_readThings_120 : decode cX10_readThings 120 = .ok (.iconst 0, 1) := dk_3 (dk_at dksX10_readThings_5 2 rfl rfl)
theorem dX10_readThings_121 : decode cX10_readThings 121 = .ok (.iastore, 1) := dk_79 (dk_at dksX10_readThings_5 3 rfl rfl)
theorem dX10_readThings_122 : decode cX10_readThings 122 = .ok (.aload_n 0, 1) := dk_42 (dk_at dksX10_readThings_5 4 rfl rfl)
theorem dX10_readThings_123 : decode cX10_readThings 123 = .ok (.dup, 1) := dk_89 (dk_at dksX10_readThings_5 5 rfl rfl)
theorem dX10_readThings_124 : decode cX10_readThings 124 = .ok (.getfield 199, 3) := dk_180 0 199 (dk_at dksX10_readThings_5 6 rfl rfl)
theorem dX10_readThings_127 : decode cX10_readThings 127 = .ok (.iconst 1, 1) := dk_4 (dk_at dksX10_readThings_5 9 rfl rfl)
theorem dX10_readThings_128 : decode cX10_readThings 128 = .ok (.iadd, 1) := dk_96 (dk_at dksX10_readThings_5 10 rfl rfl)
theorem dX10_readThings_129 : decode cX10_readThings 129 = .ok (.putfield 199, 3) := dk_181 0 199 (dk_at dksX10_readThings_5 11 rfl rfl)
theorem dX10_readThings_132 : decode cX10_readThings 132 = .ok (.goto 139, 3) := dk_167 0 139 (dk_at dksX10_readThings_5 14 rfl rfl)
theorem dX10_readThings_135 : decode cX10_readThings 135 = .ok (.iload_n 1, 1) := dk_27 (dk_at dksX10_readThings_5 17 rfl rfl)
theorem dX10_readThings_136 : decode cX10_readThings 136 = .ok (.ldc_w 259, 3) := dk_19 1 3 (dk_at dksX10_readThings_5 18 rfl rfl)
theorem dX10_readThings_139 : decode cX10_readThings 139 = .ok (.invokestatic 250, 3) := dk_184 0 250 (dk_at dksX10_readThings_5 21 rfl rfl)
theorem dX10_readThings_142 : decode cX10_readThings 142 = .ok (.if_icmp .ne 32, 3) := dk_160 0 32 (dk_at dksX10_readThings_6 0 rfl rfl)
theorem dX10_readThings_145 : decode cX10_readThings 145 = .ok (.aload_n 0, 1) := dk_42 (dk_at dksX10_readThings_6 3 rfl rfl)
theorem dX10_readThings_146 : decode cX10_readThings 146 = .ok (.getfield 32, 3) := dk_180 0 32 (dk_at dksX10_readThings_6 4 rfl rfl)
theorem dX10_readThings_149 : decode cX10_readThings 149 = .ok (.aload_n 0, 1) := dk_42 (dk_at dksX10_readThings_6 7 rfl rfl)
theorem dX10_readThings_150 : decode cX10_readThings 150 = .ok (.getfield 205, 3) := dk_180 0 205 (dk_at dksX10_readThings_6 8 rfl rfl)
theorem dX10_readThings_153 : decode cX10_readThings 153 = .ok (.aload_n 0, 1) := dk_42 (dk_at dksX10_readThings_6 11 rfl rfl)
theorem dX10_readThings_154 : decode cX10_readThings 154 = .ok (.iconst 1, 1) := dk_4 (dk_at dksX10_readThings_6 12 rfl rfl)
theorem dX10_readThings_155 : decode cX10_readThings 155 = .ok (.bipush 9, 2) := dk_16 9 (dk_at dksX10_readThings_6 13 rfl rfl)
theorem dX10_readThings_157 : decode cX10_readThings 157 = .ok (.invokevirtual 254, 3) := dk_182 0 254 (dk_at dksX10_readThings_6 15 rfl rfl)
theorem dX10_readThings_160 : decode cX10_readThings 160 = .ok (.iastore, 1) := dk_79 (dk_at dksX10_readThings_6 18 rfl rfl)
theorem dX10_readThings_161 : decode cX10_readThings 161 = .ok (.aload_n 0, 1) := dk_42 (dk_at dksX10_readThings_6 19 rfl rfl)
theorem dX10_readThings_162 : decode cX10_readThings 162 = .ok (.dup, 1) := dk_89 (dk_at dksX10_readThings_6 20 rfl rfl)
theorem dX10_readThings_163 : decode cX10_readThings 163 = .ok (.getfield 205, 3) := dk_180 0 205 (dk_at dksX10_readThings_6 21 rfl rfl)
theorem dX10_readThings_166 : decode cX10_readThings 166 = .ok (.iconst 1, 1) := dk_4 (dk_at dksX10_readThings_7 0 rfl rfl)
theorem dX10_readThings_167 : decode cX10_readThings 167 = .ok (.iadd, 1) := dk_96 (dk_at dksX10_readThings_7 1 rfl rfl)
theorem dX10_readThings_168 : decode cX10_readThings 168 = .ok (.putfield 205, 3) := dk_181 0 205 (dk_at dksX10_readThings_7 2 rfl rfl)
theorem dX10_readThings_171 : decode cX10_readThings 171 = .ok (.goto 100, 3) := dk_167 0 100 (dk_at dksX10_readThings_7 5 rfl rfl)
theorem dX10_readThings_174 : decode cX10_readThings 174 = .ok (.iload_n 1, 1) := dk_27 (dk_at dksX10_readThings_7 8 rfl rfl)
theorem dX10_readThings_175 : decode cX10_readThings 175 = .ok (.ldc_w 260, 3) := dk_19 1 4 (dk_at dksX10_readThings_7 9 rfl rfl)
theorem dX10_readThings_178 : decode cX10_readThings 178 = .ok (.invokestatic 250, 3) := dk_184 0 250 (dk_at dksX10_readThings_7 12 rfl rfl)
theorem dX10_readThings_181 : decode cX10_readThings 181 = .ok (.if_icmp .ne 32, 3) := dk_160 0 32 (dk_at dksX10_readThings_7 15 rfl rfl)
theorem dX10_readThings_184 : decode cX10_readThings 184 = .ok (.aload_n 0, 1) := dk_42 (dk_at dksX10_readThings_7 18 rfl rfl)
theorem dX10_readThings_185 : decode cX10_readThings 185 = .ok (.getfield 35, 3) := dk_180 0 35 (dk_at dksX10_readThings_7 19 rfl rfl)
theorem dX10_readThings_188 : decode cX10_readThings 188 = .ok (.aload_n 0, 1) := dk_42 (dk_at dksX10_readThings_7 22 rfl rfl)
theorem dX10_readThings_189 : decode cX10_readThings 189 = .ok (.getfield 208, 3) := dk_180 0 208 (dk_at dksX10_readThings_8 0 rfl rfl)
theorem dX10_readThings_192 : decode cX10_readThings 192 = .ok (.aload_n 0, 1) := dk_42 (dk_at dksX10_readThings_8 3 rfl rfl)
theorem dX10_readThings_193 : decode cX10_readThings 193 = .ok (.iconst 0, 1) := dk_3 (dk_at dksX10_readThings_8 4 rfl rfl)
theorem dX10_readThings_194 : decode cX10_readThings 194 = .ok (.bipush 15, 2) := dk_16 15 (dk_at dksX10_readThings_8 5 rfl rfl)
theorem dX10_readThings_196 : decode cX10_readThings 196 = .ok (.invokevirtual 254, 3) := dk_182 0 254 (dk_at dksX10_readThings_8 7 rfl rfl)
theorem dX10_readThings_199 : decode cX10_readThings 199 = .ok (.iastore, 1) := dk_79 (dk_at dksX10_readThings_8 10 rfl rfl)
theorem dX10_readThings_200 : decode cX10_readThings 200 = .ok (.aload_n 0, 1) := dk_42 (dk_at dksX10_readThings_8 11 rfl rfl)
theorem dX10_readThings_201 : decode cX10_readThings 201 = .ok (.dup, 1) := dk_89 (dk_at dksX10_readThings_8 12 rfl rfl)
theorem dX10_readThings_202 : decode cX10_readThings 202 = .ok (.getfield 208, 3) := dk_180 0 208 (dk_at dksX10_readThings_8 13 rfl rfl)
theorem dX10_readThings_205 : decode cX10_readThings 205 = .ok (.iconst 1, 1) := dk_4 (dk_at dksX10_readThings_8 16 rfl rfl)
theorem dX10_readThings_206 : decode cX10_readThings 206 = .ok (.iadd, 1) := dk_96 (dk_at dksX10_readThings_8 17 rfl rfl)
theorem dX10_readThings_207 : decode cX10_readThings 207 = .ok (.putfield 208, 3) := dk_181 0 208 (dk_at dksX10_readThings_8 18 rfl rfl)
theorem dX10_readThings_210 : decode cX10_readThings 210 = .ok (.goto 61, 3) := dk_167 0 61 (dk_at dksX10_readThings_8 21 rfl rfl)
theorem dX10_readThings_213 : decode cX10_readThings 213 = .ok (.iconst 4, 1) := dk_7 (dk_at dksX10_readThings_9 0 rfl rfl)
theorem dX10_readThings_214 : decode cX10_readThings 214 = .ok (.aload_n 0, 1) := dk_42 (dk_at dksX10_readThings_9 1 rfl rfl)
theorem dX10_readThings_215 : decode cX10_readThings 215 = .ok (.getfield 211, 3) := dk_180 0 211 (dk_at dksX10_readThings_9 2 rfl rfl)
theorem dX10_readThings_218 : decode cX10_readThings 218 = .ok (.imul, 1) := dk_104 (dk_at dksX10_readThings_9 5 rfl rfl)
theorem dX10_readThings_219 : decode cX10_readThings 219 = .ok (.istore_n 2, 1) := dk_61 (dk_at dksX10_readThings_9 6 rfl rfl)
theorem dX10_readThings_220 : decode cX10_readThings 220 = .ok (.aload_n 0, 1) := dk_42 (dk_at dksX10_readThings_9 7 rfl rfl)
theorem dX10_readThings_221 : decode cX10_readThings 221 = .ok (.getfield 38, 3) := dk_180 0 38 (dk_at dksX10_readThings_9 8 rfl rfl)
theorem dX10_readThings_224 : decode cX10_readThings 224 = .ok (.iload_n 2, 1) := dk_28 (dk_at dksX10_readThings_9 11 rfl rfl)
theorem dX10_readThings_225 : decode cX10_readThings 225 = .ok (.aload_n 0, 1) := dk_42 (dk_at dksX10_readThings_9 12 rfl rfl)
theorem dX10_readThings_226 : decode cX10_readThings 226 = .ok (.iconst 1, 1) := dk_4 (dk_at dksX10_readThings_9 13 rfl rfl)
theorem dX10_readThings_227 : decode cX10_readThings 227 = .ok (.bipush 16, 2) := dk_16 16 (dk_at dksX10_readThings_9 14 rfl rfl)
theorem dX10_readThings_229 : decode cX10_readThings 229 = .ok (.invokevirtual 254, 3) := dk_182 0 254 (dk_at dksX10_readThings_9 16 rfl rfl)
theorem dX10_readThings_232 : decode cX10_readThings 232 = .ok (.iastore, 1) := dk_79 (dk_at dksX10_readThings_9 19 rfl rfl)
theorem dX10_readThings_233 : decode cX10_readThings 233 = .ok (.iconst 1, 1) := dk_4 (dk_at dksX10_readThings_9 20 rfl rfl)
theorem dX10_readThings_234 : decode cX10_readThings 234 = .ok (.istore_n 3, 1) := dk_62 (dk_at dksX10_readThings_9 21 rfl rfl)
theorem dX10_readThings_235 : decode cX10_readThings 235 = .ok (.iload_n 3, 1) := dk_29 (dk_at dksX10_readThings_9 22 rfl rfl)
theorem dX10_readThings_236 : decode cX10_readThings 236 = .ok (.iconst 4, 1) := dk_7 (dk_at dksX10_readThings_9 23 rfl rfl)
theorem dX10_readThings_237 : decode cX10_readThings 237 = .ok (.if_icmp .ge 24, 3) := dk_162 0 24 (dk_at dksX10_readThings_10 0 rfl rfl)
theorem dX10_readThings_240 : decode cX10_readThings 240 = .ok (.aload_n 0, 1) := dk_42 (dk_at dksX10_readThings_10 3 rfl rfl)
theorem dX10_readThings_241 : decode cX10_readThings 241 = .ok (.getfield 38, 3) := dk_180 0 38 (dk_at dksX10_readThings_10 4 rfl rfl)
theorem dX10_readThings_244 : decode cX10_readThings 244 = .ok (.iload_n 2, 1) := dk_28 (dk_at dksX10_readThings_10 7 rfl rfl)
theorem dX10_readThings_245 : decode cX10_readThings 245 = .ok (.iload_n 3, 1) := dk_29 (dk_at dksX10_readThings_10 8 rfl rfl)
theorem dX10_readThings_246 : decode cX10_readThings 246 = .ok (.iadd, 1) := dk_96 (dk_at dksX10_readThings_10 9 rfl rfl)
theorem dX10_readThings_247 : decode cX10_readThings 247 = .ok (.aload_n 0, 1) := dk_42 (dk_at dksX10_readThings_10 10 rfl rfl)
theorem dX10_readThings_248 : decode cX10_readThings 248 = .ok (.iconst 0, 1) := dk_3 (dk_at dksX10_readThings_10 11 rfl rfl)
theorem dX10_readThings_249 : decode cX10_readThings 249 = .ok (.bipush 16, 2) := dk_16 16 (dk_at dksX10_readThings_10 12 rfl rfl)
theorem dX10_readThings_251 : decode cX10_readThings 251 = .ok (.invokevirtual 254, 3) := dk_182 0 254 (dk_at dksX10_readThings_10 14 rfl rfl)
theorem dX10_readThings_254 : decode cX10_readThings 254 = .ok (.iastore, 1) := dk_79 (dk_at dksX10_readThings_10 17 rfl rfl)
theorem dX10_readThings_255 : decode cX10_readThings 255 = .ok (.iinc 3 1, 3) := dk_132 3 1 (dk_at dksX10_readThings_10 18 rfl rfl)
theorem dX10_readThings_258 : decode cX10_readThings 258 = .ok (.goto (-23), 3) := dk_167 255 233 (dk_at dksX10_readThings_10 21 rfl rfl)
theorem dX10_readThings_261 : decode cX10_readThings 261 = .ok (.aload_n 0, 1) := dk_42 (dk_at dksX10_readThings_11 0 rfl rfl)
theorem dX10_readThings_262 : decode cX10_readThings 262 = .ok (.dup, 1) := dk_89 (dk_at dksX10_readThings_11 1 rfl rfl)
theorem dX10_readThings_263 : decode cX10_readThings 263 = .ok (.getfield 211, 3) := dk_180 0 211 (dk_at dksX10_readThings_11 2 rfl rfl)
theorem dX10_readThings_266 : decode cX10_readThings 266 = .ok (.iconst 1, 1) := dk_4 (dk_at dksX10_readThings_11 5 rfl rfl)
theorem dX10_readThings_267 : decode cX10_readThings 267 = .ok (.iadd, 1) := dk_96 (dk_at dksX10_readThings_11 6 rfl rfl)
theorem dX10_readThings_268 : decode cX10_readThings 268 = .ok (.putfield 211, 3) := dk_181 0 211 (dk_at dksX10_readThings_11 7 rfl rfl)
theorem dX10_readThings_271 : decode cX10_readThings 271 = .ok (.return_, 1) := dk_177 (dk_at dksX10_readThings_11 10 rfl rfl)
abbrev cX10_readNumber : ByteArray := prog_19_method_14_code
def yX10_readNumber : MethodName := ⟨RX10, "readNumber", "(II)I"⟩
def dkwX10_readNumber_5 : List UInt8 := [21, 5, 27, 161, 0, 9, 21, 5, 28, 164, 0, 12, 42, 5, 21, 4, 182, 0, 189, 3, 172, 21, 5, 172]
abbrev dktX10_readNumber_5 : List UInt8 := dkwX10_readNumber_5 ++ []
def dkwX10_readNumber_4 : List UInt8 := [180, 0, 159, 46, 96, 16, 48, 100, 54, 5, 42, 89, 180, 0, 159, 4, 96, 181, 0, 159, 167, 255, 186]
abbrev dktX10_readNumber_4 : List UInt8 := dkwX10_readNumber_4 ++ dktX10_readNumber_5
def dkwX10_readNumber_3 : List UInt8 := [17, 39, 15, 164, 0, 9, 17, 39, 16, 167, 0, 21, 16, 10, 21, 5, 104, 42, 180, 0, 20, 42]
abbrev dktX10_readNumber_3 : List UInt8 := dkwX10_readNumber_3 ++ dktX10_readNumber_4
def dkwX10_readNumber_2 : List UInt8 := [180, 0, 162, 162, 0, 65, 42, 180, 0, 20, 42, 180, 0, 159, 46, 184, 0, 186, 153, 0, 50, 21, 5]
abbrev dktX10_readNumber_2 : List UInt8 := dkwX10_readNumber_2 ++ dktX10_readNumber_3
def dkwX10_readNumber_1 : List UInt8 := [184, 0, 186, 154, 0, 14, 42, 4, 42, 180, 0, 159, 182, 0, 189, 3, 172, 42, 180, 0, 159, 42]
abbrev dktX10_readNumber_1 : List UInt8 := dkwX10_readNumber_1 ++ dktX10_readNumber_2
def dkwX10_readNumber_0 : List UInt8 := [42, 182, 0, 182, 154, 0, 5, 3, 172, 42, 182, 0, 165, 62, 42, 180, 0, 159, 54, 4, 3, 54, 5, 29]
abbrev dktX10_readNumber_0 : List UInt8 := dkwX10_readNumber_0 ++ dktX10_readNumber_1
theorem dksX10_readNumber_0 : cX10_readNumber.data.toList.drop 0 = dktX10_readNumber_0 := by decide +kernel
theorem dksX10_readNumber_1 : cX10_readNumber.data.toList.drop 24 = dktX10_readNumber_1 := dk_seg dksX10_readNumber_0 24 rfl rfl
theorem dksX10_readNumber_2 : cX10_readNumber.data.toList.drop 46 = dktX10_readNumber_2 := dk_seg dksX10_readNumber_1 22 rfl rfl
theorem dksX10_readNumber_3 : cX10_readNumber.data.toList.drop 69 = dktX10_readNumber_3 := dk_seg dksX10_readNumber_2 23 rfl rfl
theorem dksX10_readNumber_4 : cX10_readNumber.data.toList.drop 91 = dktX10_readNumber_4 := dk_seg dksX10_readNumber_3 22 rfl rfl
theorem dksX10_readNumber_5 : cX10_readNumber.data.toList.drop 114 = dktX10_readNumber_5 := dk_seg dksX10_readNumber_4 23 rfl rfl
theorem dX10_readNumber_0 : decode cX10_readNumber 0 = .ok (.aload_n 0, 1) := dk_42 (dk_at dksX10_readNumber_0 0 rfl rfl)
theorem dX10_readNumber_1 : decode cX10_readNumber 1 = .ok (.invokevirtual 182, 3) := dk_182 0 182 (dk_at dksX10_readNumber_0 1 rfl rfl)
theorem dX10_readNumber_4 : decode cX10_readNumber 4 = .ok (.ifCond .ne 5, 3) := dk_154 0 5 (dk_at dksX10_readNumber_0 4 rfl rfl)
theorem dX10_readNumber_7 : decode cX10_readNumber 7 = .ok (.iconst 0, 1) := dk_3 (dk_at dksX10_readNumber_0 7 rfl rfl)
theorem dX10_readNumber_8 : decode cX10_readNumber 8 = .ok (.ireturn, 1) := dk_172 (dk_at dksX10_readNumber_0 8 rfl rfl)
theorem dX10_readNumber_9 : decode cX10_readNumber 9 = .ok (.aload_n 0, 1) := dk_42 (dk_at dksX10_readNumber_0 9 rfl rfl)
theorem dX10_readNumber_10 : decode cX10_readNumber 10 = .ok (.invokevirtual 165, 3) := dk_182 0 165 (dk_at dksX10_readNumber_0 10 rfl rfl)
theorem dX10_readNumber_13 : decode cX10_readNumber 13 = .ok (.istore_n 3, 1) := dk_62 (dk_at dksX10_readNumber_0 13 rfl rfl)
theorem dX10_readNumber_14 : decode cX10_readNumber 14 = .ok (.aload_n 0, 1) := dk_42 (dk_at dksX10_readNumber_0 14 rfl rfl)
theorem dX10_readNumber_15 : decode cX10_readNumber 15 = .ok (.getfield 159, 3) := dk_180 0 159 (dk_at dksX10_readNumber_0 15 rfl rfl)
theorem dX10_readNumber_18 : decode cX10_readNumber 18 = .ok (.istore 4, 2) := dk_54 4 (dk_at dksX10_readNumber_0 18 rfl rfl)
theorem dX10_readNumber_20 : decode cX10_readNumber 20 = .ok (.iconst 0, 1) := dk_3 (dk_at dksX10_readNumber_0 20 rfl rfl)
theorem dX10_readNumber_21 : decode cX10_readNumber 21 = .ok (.istore 5, 2) := dk_54 5 (dk_at dksX10_readNumber_0 21 rfl rfl)
theorem dX10_readNumber_23 : decode cX10_readNumber 23 = .ok (.iload_n 3, 1) := dk_29 (dk_at dksX10_readNumber_0 23 rfl rfl)
theorem dX10_readNumber_24 : decode cX10_readNumber 24 = .ok (.invokestatic 186, 3) := dk_184 0 186 (dk_at dksX10_readNumber_1 0 rfl rfl)
theorem dX10_readNumber_27 : decode cX10_readNumber 27 = .ok (.ifCond .ne 14, 3) := dk_154 0 14 (dk_at dksX10_readNumber_1 3 rfl rfl)
theorem dX10_readNumber_30 : decode cX10_readNumber 30 = .ok (.aload_n 0, 1) := dk_42 (dk_at dksX10_readNumber_1 6 rfl rfl)
theorem dX10_readNumber_31 : decode cX10_readNumber 31 = .ok (.iconst 1, 1) := dk_4 (dk_at dksX10_readNumber_1 7 rfl rfl)
theorem dX10_readNumber_32 : decode cX10_readNumber 32 = .ok (.aload_n 0, 1) := dk_42 (dk_at dksX10_readNumber_1 8 rfl rfl)
theorem dX10_readNumber_33 : decode cX10_readNumber 33 = .ok (.getfield 159, 3) := dk_180 0 159 (dk_at dksX10_readNumber_1 9 rfl rfl)
theorem dX10_readNumber_36 : decode cX10_readNumber 36 = .ok (.invokevirtual 189, 3) := dk_182 0 189 (dk_at dksX10_readNumber_1 12 rfl rfl)
theorem dX10_readNumber_39 : decode cX10_readNumber 39 = .ok (.iconst 0, 1) := dk_3 (dk_at dksX10_readNumber_1 15 rfl rfl)
theorem dX10_readNumber_40 : decode cX10_readNumber 40 = .ok (.ireturn, 1) := dk_172 (dk_at dksX10_readNumber_1 16 rfl rfl)
theorem dX10_readNumber_41 : decode cX10_readNumber 41 = .ok (.aload_n 0, 1) := dk_42 (dk_at dksX10_readNumber_1 17 rfl rfl)
theorem dX10_readNumber_42 : decode cX10_readNumber 42 = .ok (.getfield 159, 3) := dk_180 0 159 (dk_at dksX10_readNumber_1 18 rfl rfl)
theorem dX10_readNumber_45 : decode cX10_readNumber 45 = .ok (.aload_n 0, 1) := dk_42 (dk_at dksX10_readNumber_1 21 rfl rfl)
theorem dX10_readNumber_46 : decode cX10_readNumber 46 = .ok (.getfield 162, 3) := dk_180 0 162 (dk_at dksX10_readNumber_2 0 rfl rfl)
theorem dX10_readNumber_49 : decode cX10_readNumber 49 = .ok (.if_icmp .ge 65, 3) := dk_162 0 65 (dk_at dksX10_readNumber_2 3 rfl rfl)
theorem dX10_readNumber_52 : decode cX10_readNumber 52 = .ok (.aload_n 0, 1) := dk_42 (dk_at dksX10_readNumber_2 6 rfl rfl)
theorem dX10_readNumber_53 : decode cX10_readNumber 53 = .ok (.getfield 20, 3) := dk_180 0 20 (dk_at dksX10_readNumber_2 7 rfl rfl)
theorem dX10_readNumber_56 : decode cX10_readNumber 56 = .ok (.aload_n 0, 1) := dk_42 (dk_at dksX10_readNumber_2 10 rfl rfl)
theorem dX10_readNumber_57 : decode cX10_readNumber 57 = .ok (.getfield 159, 3) := dk_180 0 159 (dk_at dksX10_readNumber_2 11 rfl rfl)
theorem dX10_readNumber_60 : decode cX10_readNumber 60 = .ok (.iaload, 1) := dk_46 (dk_at dksX10_readNumber_2 14 rfl rfl)
theorem dX10_readNumber_61 : decode cX10_readNumber 61 = .ok (.invokestatic 186, 3) := dk_184 0 186 (dk_at dksX10_readNumber_2 15 rfl rfl)
theorem dX10_readNumber_64 : decode cX10_readNumber 64 = .ok (.ifCond .eq 50, 3) := dk_153 0 50 (dk_at dksX10_readNumber_2 18 rfl rfl)
theorem dX10_readNumber_67 : decode cX10_readNumber 67 = .ok (.iload 5, 2) := dk_21 5 (dk_at dksX10_readNumber_2 21 rfl rfl)
theorem dX10_readNumber_69 : decode cX10_readNumber 69 = .ok (.sipush 9999, 3) := dk_17 39 15 (dk_at dksX10_readNumber_3 0 rfl rfl)
theorem dX10_readNumber_72 : decode cX10_readNumber 72 = .ok (.if_icmp .le 9, 3) := dk_164 0 9 (dk_at dksX10_readNumber_3 3 rfl rfl)
theorem dX10_readNumber_75 : decode cX10_readNumber 75 = .ok (.sipush 10000, 3) := dk_17 39 16 (dk_at dksX10_readNumber_3 6 rfl rfl)
theorem dX10_readNumber_78 : decode cX10_readNumber 78 = .ok (.goto 21, 3) := dk_167 0 21 (dk_at dksX10_readNumber_3 9 rfl rfl)
theorem dX10_readNumber_81 : decode cX10_readNumber 81 = .ok (.bipush 10, 2) := dk_16 10 (dk_at dksX10_readNumber_3 12 rfl rfl)
theorem dX10_readNumber_83 : decode cX10_readNumber 83 = .ok (.iload 5, 2) := dk_21 5 (dk_at dksX10_readNumber_3 14 rfl rfl)
theorem dX10_readNumber_85 : decode cX10_readNumber 85 = .ok (.imul, 1) := dk_104 (dk_at dksX10_readNumber_3 16 rfl rfl)
theorem dX10_readNumber_86 : decode cX10_readNumber 86 = .ok (.aload_n 0, 1) := dk_42 (dk_at dksX10_readNumber_3 17 rfl rfl)
theorem dX10_readNumber_87 : decode cX10_readNumber 87 = .ok (.getfield 20, 3) := dk_180 0 20 (dk_at dksX10_readNumber_3 18 rfl rfl)
theorem dX10_readNumber_90 : decode cX10_readNumber 90 = .ok (.aload_n 0, 1) := dk_42 (dk_at dksX10_readNumber_3 21 rfl rfl)
theorem dX10_readNumber_91 : decode cX10_readNumber 91 = .ok (.getfield 159, 3) := dk_180 0 159 (dk_at dksX10_readNumber_4 0 rfl rfl)
theorem dX10_readNumber_94 : decode cX10_readNumber 94 = .ok (.iaload, 1) := dk_46 (dk_at dksX10_readNumber_4 3 rfl rfl)
theorem dX10_readNumber_95 : decode cX10_readNumber 95 = .ok (.iadd, 1) := dk_96 (dk_at dksX10_readNumber_4 4 rfl rfl)
theorem dX10_readNumber_96 : decode cX10_readNumber 96 = .ok (.bipush 48, 2) := dk_16 48 (dk_at dksX10_readNumber_4 5 rfl rfl)
theorem dX10_readNumber_98 : decode cX10_readNumber 98 = .ok (.isub, 1) := dk_100 (dk_at dksX10_readNumber_4 7 rfl rfl)
theorem dX10_readNumber_99 : decode cX10_readNumber 99 = .ok (.istore 5, 2) := dk_54 5 (dk_at dksX10_readNumber_4 8 rfl rfl)
theorem dX10_readNumber_101 : decode cX10_readNumber 101 = .ok (.aload_n 0, 1) := dk_42 (dk_at dksX10_readNumber_4 10 rfl rfl)
theorem dX10_readNumber_102 : decode cX10_readNumber 102 = .ok (.dup, 1) := dk_89 (dk_at dksX10_readNumber_4 11 rfl rfl)
theorem dX10_readNumber_103 : decode cX10_readNumber 103 = .ok (.getfield 159, 3) := dk_180 0 159 (dk_at dksX10_readNumber_4 12 rfl rfl)
theorem dX10_readNumber_106 : decode cX10_readNumber 106 = .ok (.iconst 1, 1) := dk_4 (dk_at dksX10_readNumber_4 15 rfl rfl)
theorem dX10_readNumber_107 : decode cX10_readNumber 107 = .ok (.iadd, 1) := dk_96 (dk_at dksX10_readNumber_4 16 rfl rfl)
theorem dX10_readNumber_108 : decode cX10_readNumber 108 = .ok (.putfield 159, 3) := dk_181 0 159 (dk_at dksX10_readNumber_4 17 rfl rfl)
theorem dX10_readNumber_111 : decode cX10_readNumber 111 = .ok (.goto (-70), 3) := dk_167 255 186 (dk_at dksX10_readNumber_4 20 rfl rfl)
theorem dX10_readNumber_114 : decode cX10_readNumber 114 = .ok (.iload 5, 2) := dk_21 5 (dk_at dksX10_readNumber_5 0 rfl rfl)
theorem dX10_readNumber_116 : decode cX10_readNumber 116 = .ok (.iload_n 1, 1) := dk_27 (dk_at dksX10_readNumber_5 2 rfl rfl)
theorem dX10_readNumber_117 : decode cX10_readNumber 117 = .ok (.if_icmp .lt 9, 3) := dk_161 0 9 (dk_at dksX10_readNumber_5 3 rfl rfl)
theorem dX10_readNumber_120 : decode cX10_readNumber 120 = .ok (.iload 5, 2) := dk_21 5 (dk_at dksX10_readNumber_5 6 rfl rfl)
theorem dX10_readNumber_122 : decode cX10_readNumber 122 = .ok (.iload_n 2, 1) := dk_28 (dk_at dksX10_readNumber_5 8 rfl rfl)
theorem dX10_readNumber_123 : decode cX10_readNumber 123 = .ok (.if_icmp .le 12, 3) := dk_164 0 12 (dk_at dksX10_readNumber_5 9 rfl rfl)
theorem dX10_readNumber_126 : decode cX10_readNumber 126 = .ok (.aload_n 0, 1) := dk_42 (dk_at dksX10_readNumber_5 12 rfl rfl)
theorem dX10_readNumber_127 : decode cX10_readNumber 127 = .ok (.iconst 2, 1) := dk_5 (dk_at dksX10_readNumber_5 13 rfl rfl)
theorem dX10_readNumber_128 : decode cX10_readNumber 128 = .ok (.iload 4, 2) := dk_21 4 (dk_at dksX10_readNumber_5 14 rfl rfl)
theorem dX10_readNumber_130 : decode cX10_readNumber 130 = .ok (.invokevirtual 189, 3) := dk_182 0 189 (dk_at dksX10_readNumber_5 16 rfl rfl)
theorem dX10_readNumber_133 : decode cX10_readNumber 133 = .ok (.iconst 0, 1) := dk_3 (dk_at dksX10_readNumber_5 19 rfl rfl)
theorem dX10_readNumber_134 : decode cX10_readNumber 134 = .ok (.ireturn, 1) := dk_172 (dk_at dksX10_readNumber_5 20 rfl rfl)
theorem dX10_readNumber_135 : decode cX10_readNumber 135 = .ok (.iload 5, 2) := dk_21 5 (dk_at dksX10_readNumber_5 21 rfl rfl)
theorem dX10_readNumber_137 : decode cX10_readNumber 137 = .ok (.ireturn, 1) := dk_172 (dk_at dksX10_readNumber_5 23 rfl rfl)
abbrev cX10_isDigit : ByteArray := prog_19_method_10_code
def yX10_isDigit : MethodName := ⟨RX10, "isDigit", "(I)Z"⟩
def dkwX10_isDigit_0 : List UInt8 := [26, 16, 48, 161, 0, 13, 26, 16, 57, 163, 0, 7, 4, 167, 0, 4, 3, 172]
abbrev dktX10_isDigit_0 : List UInt8 := dkwX10_isDigit_0 ++ []
theorem dksX10_isDigit_0 : cX10_isDigit.data.toList.drop 0 = dktX10_isDigit_0 := by decide +kernel
theorem dX10_isDigit_0 : decode cX10_isDigit 0 = .ok (.iload_n 0, 1) := dk_26 (dk_at dksX10_isDigit_0 0 rfl rfl)
theorem dX10_isDigit_1 : decode cX10_isDigit 1 = .ok (.bipush 48, 2) := dk_16 48 (dk_at dksX10_isDigit_0 1 rfl rfl)
theorem dX10_isDigit_3 : decode cX10_isDigit 3 = .ok (.if_icmp .lt 13, 3) := dk_161 0 13 (dk_at dksX10_isDigit_0 3 rfl rfl)
theorem dX10_isDigit_6 : decode cX10_isDigit 6 = .ok (.iload_n 0, 1) := dk_26 (dk_at dksX10_isDigit_0 6 rfl rfl)
theorem dX10_isDigit_7 : decode cX10_isDigit 7 = .ok (.bipush 57, 2) := dk_16 57 (dk_at dksX10_isDigit_0 7 rfl rfl)
theorem dX10_isDigit_9 : decode cX10_isDigit 9 = .ok (.if_icmp .gt 7, 3) := dk_163 0 7 (dk_at dksX10_isDigit_0 9 rfl rfl)
theorem dX10_isDigit_12 : decode cX10_isDigit 12 = .ok (.iconst 1, 1) := dk_4 (dk_at dksX10_isDigit_0 12 rfl rfl)
theorem dX10_isDigit_13 : decode cX10_isDigit 13 = .ok (.goto 4, 3) := dk_167 0 4 (dk_at dksX10_isDigit_0 13 rfl rfl)
theorem dX10_isDigit_16 : decode cX10_isDigit 16 = .ok (.iconst 0, 1) := dk_3 (dk_at dksX10_isDigit_0 16 rfl rfl)
theorem dX10_isDigit_17 : decode cX10_isDigit 17 = .ok (.ireturn, 1) := dk_172 (dk_at dksX10_isDigit_0 17 rfl rfl)
abbrev cX10_readOthers : ByteArray := prog_19_method_24_code
def yX10_readOthers : MethodName := ⟨RX10, "readOthers", "(I)V"⟩
def dkwX10_readOthers_11 : List UInt8 := [42, 3, 16, 99, 182, 0, 254, 79, 42, 180, 0, 66, 7, 42, 4, 16, 9, 182, 0, 254, 79, 177]
abbrev dktX10_readOthers_11 : List UInt8 := dkwX10_readOthers_11 ++ []
def dkwX10_readOthers_10 : List UInt8 := [160, 0, 19, 42, 180, 0, 66, 5, 42, 3, 16, 16, 182, 0, 254, 79, 167, 0, 29, 42, 180, 0, 66, 6]
abbrev dktX10_readOthers_10 : List UInt8 := dkwX10_readOthers_10 ++ dktX10_readOthers_11
def dkwX10_readOthers_9 : List UInt8 := [180, 0, 66, 4, 42, 3, 16, 16, 182, 0, 254, 79, 167, 0, 55, 27, 19, 1, 14, 184, 0, 250]
abbrev dktX10_readOthers_9 : List UInt8 := dkwX10_readOthers_9 ++ dktX10_readOthers_10
def dkwX10_readOthers_8 : List UInt8 := [42, 4, 16, 99, 182, 0, 254, 79, 167, 0, 81, 27, 19, 1, 12, 184, 0, 250, 160, 0, 19, 42]
abbrev dktX10_readOthers_8 : List UInt8 := dkwX10_readOthers_8 ++ dktX10_readOthers_9
def dkwX10_readOthers_7 : List UInt8 := [180, 0, 29, 28, 29, 79, 167, 0, 107, 27, 19, 1, 10, 184, 0, 250, 160, 0, 19, 42, 180, 0, 66, 3]
abbrev dktX10_readOthers_7 : List UInt8 := dkwX10_readOthers_7 ++ dktX10_readOthers_8
def dkwX10_readOthers_6 : List UInt8 := [16, 59, 182, 0, 254, 61, 42, 3, 16, 20, 182, 0, 254, 62, 42, 182, 0, 182, 153, 0, 10, 42]
abbrev dktX10_readOthers_6 : List UInt8 := dkwX10_readOthers_6 ++ dktX10_readOthers_7
def dkwX10_readOthers_5 : List UInt8 := [180, 0, 202, 4, 96, 181, 0, 202, 167, 0, 150, 27, 19, 1, 8, 184, 0, 250, 160, 0, 36, 42, 3]
abbrev dktX10_readOthers_5 : List UInt8 := dkwX10_readOthers_5 ++ dktX10_readOthers_6
def dkwX10_readOthers_4 : List UInt8 := [21, 4, 29, 163, 0, 17, 42, 180, 0, 59, 21, 4, 4, 84, 132, 4, 1, 167, 255, 239, 42, 89]
abbrev dktX10_readOthers_4 : List UInt8 := dkwX10_readOthers_4 ++ dktX10_readOthers_5
def dkwX10_readOthers_3 : List UInt8 := [182, 0, 254, 61, 42, 28, 17, 0, 240, 182, 0, 254, 62, 42, 182, 0, 182, 154, 0, 4, 177, 28, 54, 4]
abbrev dktX10_readOthers_3 : List UInt8 := dkwX10_readOthers_3 ++ dktX10_readOthers_4
def dkwX10_readOthers_2 : List UInt8 := [46, 4, 29, 120, 128, 79, 167, 0, 222, 27, 19, 1, 7, 184, 0, 250, 160, 0, 65, 42, 3, 17, 0, 240]
abbrev dktX10_readOthers_2 : List UInt8 := dkwX10_readOthers_2 ++ dktX10_readOthers_3
def dkwX10_readOthers_1 : List UInt8 := [28, 4, 100, 182, 0, 254, 62, 42, 182, 0, 182, 153, 0, 19, 42, 180, 0, 26, 8, 28, 104, 7, 96, 92]
abbrev dktX10_readOthers_1 : List UInt8 := dkwX10_readOthers_1 ++ dktX10_readOthers_2
def dkwX10_readOthers_0 : List UInt8 := [27, 19, 1, 5, 184, 0, 250, 160, 0, 50, 42, 3, 42, 180, 0, 199, 4, 100, 182, 0, 254, 61, 42, 3]
abbrev dktX10_readOthers_0 : List UInt8 := dkwX10_readOthers_0 ++ dktX10_readOthers_1
theorem dksX10_readOthers_0 : cX10_readOthers.data.toList.drop 0 = dktX10_readOthers_0 := by decide +kernel
theorem dksX10_readOthers_1 : cX10_readOthers.data.toList.drop 24 = dktX10_readOthers_1 := dk_seg dksX10_readOthers_0 24 rfl rfl
theorem dksX10_readOthers_2 : cX10_readOthers.data.toList.drop 48 = dktX10_readOthers_2 := dk_seg dksX10_readOthers_1 24 rfl rfl
theorem dksX10_readOthers_3 : cX10_readOthers.data.toList.drop 72 = dktX10_readOthers_3 := dk_seg dksX10_readOthers_2 24 rfl rfl
theorem dksX10_readOthers_4 : cX10_readOthers.data.toList.drop 96 = dktX10_readOthers_4 := dk_seg dksX10_readOthers_3 24 rfl rfl
theorem dksX10_readOthers_5 : cX10_readOthers.data.toList.drop 118 = dktX10_readOthers_5 := dk_seg dksX10_readOthers_4 22 rfl rfl
theorem dksX10_readOthers_6 : cX10_readOthers.data.toList.drop 141 = dktX10_readOthers_6 := dk_seg dksX10_readOthers_5 23 rfl rfl
theorem dksX10_readOthers_7 : cX10_readOthers.data.toList.drop 163 = dktX10_readOthers_7 := dk_seg dksX10_readOthers_6 22 rfl rfl
theorem dksX10_readOthers_8 : cX10_readOthers.data.toList.drop 187 = dktX10_readOthers_8 := dk_seg dksX10_readOthers_7 24 rfl rfl
theorem dksX10_readOthers_9 : cX10_readOthers.data.toList.drop 209 = dktX10_readOthers_9 := dk_seg dksX10_readOthers_8 22 rfl rfl
theorem dksX10_readOthers_10 : cX10_readOthers.data.toList.drop 231 = dktX10_readOthers_10 := dk_seg dksX10_readOthers_9 22 rfl rfl
theorem dksX10_readOthers_11 : cX10_readOthers.data.toList.drop 255 = dktX10_readOthers_11 := dk_seg dksX10_readOthers_10 24 rfl rfl
theorem dX10_readOthers_0 : decode cX10_readOthers 0 = .ok (.iload_n 1, 1) := dk_27 (dk_at dksX10_readOthers_0 0 rfl rfl)
theorem dX10_readOthers_1 : decode cX10_readOthers 1 = .ok (.ldc_w 261, 3) := dk_19 1 5 (dk_at dksX10_readOthers_0 1 rfl rfl)
theorem dX10_readOthers_4 : decode cX10_readOthers 4 = .ok (.invokestatic 250, 3) := dk_184 0 250 (dk_at dksX10_readOthers_0 4 rfl rfl)
theorem dX10_readOthers_7 : decode cX10_readOthers 7 = .ok (.if_icmp .ne 50, 3) := dk_160 0 50 (dk_at dksX10_readOthers_0 7 rfl rfl)
theorem dX10_readOthers_10 : decode cX10_readOthers 10 = .ok (.aload_n 0, 1) := dk_42 (dk_at dksX10_readOthers_0 10 rfl rfl)
theorem dX10_readOthers_11 : decode cX10_readOthers 11 = .ok (.iconst 0, 1) := dk_3 (dk_at dksX10_readOthers_0 11 rfl rfl)
theorem dX10_readOthers_12 : decode cX10_readOthers 12 = .ok (.aload_n 0, 1) := dk_42 (dk_at dksX10_readOthers_0 12 rfl rfl)
theorem dX10_readOthers_13 : decode cX10_readOthers 13 = .ok (.getfield 199, 3) := dk_180 0 199 (dk_at dksX10_readOthers_0 13 rfl rfl)
theorem dX10_readOthers_16 : decode cX10_readOthers 16 = .ok (.iconst 1, 1) := dk_4 (dk_at dksX10_readOthers_0 16 rfl rfl)
theorem dX10_readOthers_17 : decode cX10_readOthers 17 = .ok (.isub, 1) := dk_100 (dk_at dksX10_readOthers_0 17 rfl rfl)
theorem dX10_readOthers_18 : decode cX10_readOthers 18 = .ok (.invokevirtual 254, 3) := dk_182 0 254 (dk_at dksX10_readOthers_0 18 rfl rfl)
theorem dX10_readOthers_21 : decode cX10_readOthers 21 = .ok (.istore_n 2, 1) := dk_61 (dk_at dksX10_readOthers_0 21 rfl rfl)
theorem dX10_readOthers_22 : decode cX10_readOthers 22 = .ok (.aload_n 0, 1) := dk_42 (dk_at dksX10_readOthers_0 22 rfl rfl)
theorem dX10_readOthers_23 : decode cX10_readOthers 23 = .ok (.iconst 0, 1) := dk_3 (dk_at dksX10_readOthers_0 23 rfl rfl)
theorem dX10_readOthers_24 : decode cX10_readOthers 24 = .ok (.iload_n 2, 1) := dk_28 (dk_at dksX10_readOthers_1 0 rfl rfl)
theorem dX10_readOthers_25 : decode cX10_readOthers 25 = .ok (.iconst 1, 1) := dk_4 (dk_at dksX10_readOthers_1 1 rfl rfl)
theorem dX10_readOthers_26 : decode cX10_readOthers 26 = .ok (.isub, 1) := dk_100 (dk_at dksX10_readOthers_1 2 rfl rfl)
theorem dX10_readOthers_27 : decode cX10_readOthers 27 = .ok (.invokevirtual 254, 3) := dk_182 0 254 (dk_at dksX10_readOthers_1 3 rfl rfl)
theorem dX10_readOthers_30 : decode cX10_readOthers 30 = .ok (.istore_n 3, 1) := dk_62 (dk_at dksX10_readOthers_1 6 rfl rfl)
theorem dX10_readOthers_31 : decode cX10_readOthers 31 = .ok (.aload_n 0, 1) := dk_42 (dk_at dksX10_readOthers_1 7 rfl rfl)
theorem dX10_readOthers_32 : decode cX10_readOthers 32 = .ok (.invokevirtual 182, 3) := dk_182 0 182 (dk_at dksX10_readOthers_1 8 rfl rfl)
theorem dX10_readOthers_35 : decode cX10_readOthers 35 = .ok (.ifCond .eq 19, 3) := dk_153 0 19 (dk_at dksX10_readOthers_1 11 rfl rfl)
theorem dX10_readOthers_38 : decode cX10_readOthers 38 = .ok (.aload_n 0, 1) := dk_42 (dk_at dksX10_readOthers_1 14 rfl rfl)
theorem dX10_readOthers_39 : decode cX10_readOthers 39 = .ok (.getfield 26, 3) := dk_180 0 26 (dk_at dksX10_readOthers_1 15 rfl rfl)
theorem dX10_readOthers_42 : decode cX10_readOthers 42 = .ok (.iconst 5, 1) := dk_8 (dk_at dksX10_readOthers_1 18 rfl rfl)
theorem dX10_readOthers_43 : decode cX10_readOthers 43 = .ok (.iload_n 2, 1) := dk_28 (dk_at dksX10_readOthers_1 19 rfl rfl)
theorem dX10_readOthers_44 : decode cX10_readOthers 44 = .ok (.imul, 1) := dk_104 (dk_at dksX10_readOthers_1 20 rfl rfl)
theorem dX10_readOthers_45 : decode cX10_readOthers 45 = .ok (.iconst 4, 1) := dk_7 (dk_at dksX10_readOthers_1 21 rfl rfl)
theorem dX10_readOthers_46 : decode cX10_readOthers 46 = .ok (.iadd, 1) := dk_96 (dk_at dksX10_readOthers_1 22 rfl rfl)
theorem dX10_readOthers_47 : decode cX10_readOthers 47 = .ok (.dup2, 1) := dk_92 (dk_at dksX10_readOthers_1 23 rfl rfl)
theorem dX10_readOthers_48 : decode cX10_readOthers 48 = .ok (.iaload, 1) := dk_46 (dk_at dksX10_readOthers_2 0 rfl rfl)
theorem dX10_readOthers_49 : decode cX10_readOthers 49 = .ok (.iconst 1, 1) := dk_4 (dk_at dksX10_readOthers_2 1 rfl rfl)
theorem dX10_readOthers_50 : decode cX10_readOthers 50 = .ok (.iload_n 3, 1) := dk_29 (dk_at dksX10_readOthers_2 2 rfl rfl)
theorem dX10_readOthers_51 : decode cX10_readOthers 51 = .ok (.ishl, 1) := dk_120 (dk_at dksX10_readOthers_2 3 rfl rfl)
theorem dX10_readOthers_52 : decode cX10_readOthers 52 = .ok (.ior, 1) := dk_128 (dk_at dksX10_readOthers_2 4 rfl rfl)
theorem dX10_readOthers_53 : decode cX10_readOthers 53 = .ok (.iastore, 1) := dk_79 (dk_at dksX10_readOthers_2 5 rfl rfl)
theorem dX10_readOthers_54 : decode cX10_readOthers 54 = .ok (.goto 222, 3) := dk_167 0 222 (dk_at dksX10_readOthers_2 6 rfl rfl)
theorem dX10_readOthers_57 : decode cX10_readOthers 57 = .ok (.iload_n 1, 1) := dk_27 (dk_at dksX10_readOthers_2 9 rfl rfl)
theorem dX10_readOthers_58 : decode cX10_readOthers 58 = .ok (.ldc_w 263, 3) := dk_19 1 7 (dk_at dksX10_readOthers_2 10 rfl rfl)
theorem dX10_readOthers_61 : decode cX10_readOthers 61 = .ok (.invokestatic 250, 3) := dk_184 0 250 (dk_at dksX10_readOthers_2 13 rfl rfl)
theorem dX10_readOthers_64 : decode cX10_readOthers 64 = .ok (.if_icmp .ne 65, 3) := dk_160 0 65 (dk_at dksX10_readOthers_2 16 rfl rfl)
theorem dX10_readOthers_67 : decode cX10_readOthers 67 = .ok (.aload_n 0, 1) := dk_42 (dk_at dksX10_readOthers_2 19 rfl rfl)
theorem dX10_readOthers_68 : decode cX10_readOthers 68 = .ok (.iconst 0, 1) := dk_3 (dk_at dksX10_readOthers_2 20 rfl rfl)
theorem dX10_readOthers_69 : decode cX10_readOthers 69 = .ok (.sipush 240, 3) := dk_17 0 240 (dk_at dksX10_readOthers_2 21 rfl rfl)
theorem dX10_readOthers_72 : decode cX10_readOthers 72 = .ok (.invokevirtual 254, 3) := dk_182 0 254 (dk_at dksX10_readOthers_3 0 rfl rfl)
theorem dX10_readOthers_75 : decode cX10_readOthers 75 = .ok (.istore_n 2, 1) := dk_61 (dk_at dksX10_readOthers_3 3 rfl rfl)
theorem dX10_readOthers_76 : decode cX10_readOthers 76 = .ok (.aload_n 0, 1) := dk_42 (dk_at dksX10_readOthers_3 4 rfl rfl)
theorem dX10_readOthers_77 : decode cX10_readOthers 77 = .ok (.iload_n 2, 1) := dk_28 (dk_at dksX10_readOthers_3 5 rfl rfl)
theorem dX10_readOthers_78 : decode cX10_readOthers 78 = .ok (.sipush 240, 3) := dk_17 0 240 (dk_at dksX10_readOthers_3 6 rfl rfl)
theorem dX10_readOthers_81 : decode cX10_readOthers 81 = .ok (.invokevirtual 254, 3) := dk_182 0 254 (dk_at dksX10_readOthers_3 9 rfl rfl)
theorem dX10_readOthers_84 : decode cX10_readOthers 84 = .ok (.istore_n 3, 1) := dk_62 (dk_at dksX10_readOthers_3 12 rfl rfl)
theorem dX10_readOthers_85 : decode cX10_readOthers 85 = .ok (.aload_n 0, 1) := dk_42 (dk_at dksX10_readOthers_3 13 rfl rfl)
theorem dX10_readOthers_86 : decode cX10_readOthers 86 = .ok (.invokevirtual 182, 3) := dk_182 0 182 (dk_at dksX10_readOthers_3 14 rfl rfl)
theorem dX10_readOthers_89 : decode cX10_readOthers 89 = .ok (.ifCond .ne 4, 3) := dk_154 0 4 (dk_at dksX10_readOthers_3 17 rfl rfl)
theorem dX10_readOthers_92 : decode cX10_readOthers 92 = .ok (.return_, 1) := dk_177 (dk_at dksX10_readOthers_3 20 rfl rfl)
theorem dX10_readOthers_93 : decode cX10_readOthers 93 = .ok (.iload_n 2, 1) := dk_28 (dk_at dksX10_readOthers_3 21 rfl rfl)
theorem dX10_readOthers_94 : decode cX10_readOthers 94 = .ok (.istore 4, 2) := dk_54 4 (dk_at dksX10_readOthers_3 22 rfl rfl)
theorem dX10_readOthers_96 : decode cX10_readOthers 96 = .ok (.iload 4, 2) := dk_21 4 (dk_at dksX10_readOthers_4 0 rfl rfl)
theorem dX10_readOthers_98 : decode cX10_readOthers 98 = .ok (.iload_n 3, 1) := dk_29 (dk_at dksX10_readOthers_4 2 rfl rfl)
theorem dX10_readOthers_99 : decode cX10_readOthers 99 = .ok (.if_icmp .gt 17, 3) := dk_163 0 17 (dk_at dksX10_readOthers_4 3 rfl rfl)
theorem dX10_readOthers_102 : decode cX10_readOthers 102 = .ok (.aload_n 0, 1) := dk_42 (dk_at dksX10_readOthers_4 6 rfl rfl)
theorem dX10_readOthers_103 : decode cX10_readOthers 103 = .ok (.getfield 59, 3) := dk_180 0 59 (dk_at dksX10_readOthers_4 7 rfl rfl)
theorem dX10_readOthers_106 : decode cX10_readOthers 106 = .ok (.iload 4, 2) := dk_21 4 (dk_at dksX10_readOthers_4 10 rfl rfl)
theorem dX10_readOthers_108 : decode cX10_readOthers 108 = .ok (.iconst 1, 1) := dk_4 (dk_at dksX10_readOthers_4 12 rfl rfl)
theorem dX10_readOthers_109 : decode cX10_readOthers 109 = .ok (.bastore, 1) := dk_84 (dk_at dksX10_readOthers_4 13 rfl rfl)
theorem dX10_readOthers_110 : decode cX10_readOthers 110 = .ok (.iinc 4 1, 3) := dk_132 4 1 (dk_at dksX10_readOthers_4 14 rfl rfl)
theorem dX10_readOthers_113 : decode cX10_readOthers 113 = .ok (.goto (-17), 3) := dk_167 255 239 (dk_at dksX10_readOthers_4 17 rfl rfl)
theorem dX10_readOthers_116 : decode cX10_readOthers 116 = .ok (.aload_n 0, 1) := dk_42 (dk_at dksX10_readOthers_4 20 rfl rfl)
theorem dX10_readOthers_117 : decode cX10_readOthers 117 = .ok (.dup, 1) := dk_89 (dk_at dksX10_readOthers_4 21 rfl rfl)
theorem dX10_readOthers_118 : decode cX10_readOthers 118 = .ok (.getfield 202, 3) := dk_180 0 202 (dk_at dksX10_readOthers_5 0 rfl rfl)
theorem dX10_readOthers_121 : decode cX10_readOthers 121 = .ok (.iconst 1, 1) := dk_4 (dk_at dksX10_readOthers_5 3 rfl rfl)
theorem dX10_readOthers_122 : decode cX10_readOthers 122 = .ok (.iadd, 1) := dk_96 (dk_at dksX10_readOthers_5 4 rfl rfl)
theorem dX10_readOthers_123 : decode cX10_readOthers 123 = .ok (.putfield 202, 3) := dk_181 0 202 (dk_at dksX10_readOthers_5 5 rfl rfl)
theorem dX10_readOthers_126 : decode cX10_readOthers 126 = .ok (.goto 150, 3) := dk_167 0 150 (dk_at dksX10_readOthers_5 8 rfl rfl)
theorem dX10_readOthers_129 : decode cX10_readOthers 129 = .ok (.iload_n 1, 1) := dk_27 (dk_at dksX10_readOthers_5 11 rfl rfl)
theorem dX10_readOthers_130 : decode cX10_readOthers 130 = .ok (.ldc_w 264, 3) := dk_19 1 8 (dk_at dksX10_readOthers_5 12 rfl rfl)
theorem dX10_readOthers_133 : decode cX10_readOthers 133 = .ok (.invokestatic 250, 3) := dk_184 0 250 (dk_at dksX10_readOthers_5 15 rfl rfl)
theorem dX10_readOthers_136 : decode cX10_readOthers 136 = .ok (.if_icmp .ne 36, 3) := dk_160 0 36 (dk_at dksX10_readOthers_5 18 rfl rfl)
theorem dX10_readOthers_139 : decode cX10_readOthers 139 = .ok (.aload_n 0, 1) := dk_42 (dk_at dksX10_readOthers_5 21 rfl rfl)
theorem dX10_readOthers_140 : decode cX10_readOthers 140 = .ok (.iconst 0, 1) := dk_3 (dk_at dksX10_readOthers_5 22 rfl rfl)
theorem dX10_readOthers_141 : decode cX10_readOthers 141 = .ok (.bipush 59, 2) := dk_16 59 (dk_at dksX10_readOthers_6 0 rfl rfl)
theorem dX10_readOthers_143 : decode cX10_readOthers 143 = .ok (.invokevirtual 254, 3) := dk_182 0 254 (dk_at dksX10_readOthers_6 2 rfl rfl)
theorem dX10_readOthers_146 : decode cX10_readOthers 146 = .ok (.istore_n 2, 1) := dk_61 (dk_at dksX10_readOthers_6 5 rfl rfl)
theorem dX10_readOthers_147 : decode cX10_readOthers 147 = .ok (.aload_n 0, 1) := dk_42 (dk_at dksX10_readOthers_6 6 rfl rfl)
theorem dX10_readOthers_148 : decode cX10_readOthers 148 = .ok (.iconst 0, 1) := dk_3 (dk_at dksX10_readOthers_6 7 rfl rfl)
theorem dX10_readOthers_149 : decode cX10_readOthers 149 = .ok (.bipush 20, 2) := dk_16 20 (dk_at dksX10_readOthers_6 8 rfl rfl)
theorem dX10_readOthers_151 : decode cX10_readOthers 151 = .ok (.invokevirtual 254, 3) := dk_182 0 254 (dk_at dksX10_readOthers_6 10 rfl rfl)
theorem dX10_readOthers_154 : decode cX10_readOthers 154 = .ok (.istore_n 3, 1) := dk_62 (dk_at dksX10_readOthers_6 13 rfl rfl)
theorem dX10_readOthers_155 : decode cX10_readOthers 155 = .ok (.aload_n 0, 1) := dk_42 (dk_at dksX10_readOthers_6 14 rfl rfl)
theorem dX10_readOthers_156 : decode cX10_readOthers 156 = .ok (.invokevirtual 182, 3) := dk_182 0 182 (dk_at dksX10_readOthers_6 15 rfl rfl)
theorem dX10_readOthers_159 : decode cX10_readOthers 159 = .ok (.ifCond .eq 10, 3) := dk_153 0 10 (dk_at dksX10_readOthers_6 18 rfl rfl)
theorem dX10_readOthers_162 : decode cX10_readOthers 162 = .ok (.aload_n 0, 1) := dk_42 (dk_at dksX10_readOthers_6 21 rfl rfl)
theorem dX10_readOthers_163 : decode cX10_readOthers 163 = .ok (.getfield 29, 3) := dk_180 0 29 (dk_at dksX10_readOthers_7 0 rfl rfl)
theorem dX10_readOthers_166 : decode cX10_readOthers 166 = .ok (.iload_n 2, 1) := dk_28 (dk_at dksX10_readOthers_7 3 rfl rfl)
theorem dX10_readOthers_167 : decode cX10_readOthers 167 = .ok (.iload_n 3, 1) := dk_29 (dk_at dksX10_readOthers_7 4 rfl rfl)
theorem dX10_readOthers_168 : decode cX10_readOthers 168 = .ok (.iastore, 1) := dk_79 (dk_at dksX10_readOthers_7 5 rfl rfl)
theorem dX10_readOthers_169 : decode cX10_readOthers 169 = .ok (.goto 107, 3) := dk_167 0 107 (dk_at dksX10_readOthers_7 6 rfl rfl)
theorem dX10_readOthers_172 : decode cX10_readOthers 172 = .ok (.iload_n 1, 1) := dk_27 (dk_at dksX10_readOthers_7 9 rfl rfl)
theorem dX10_readOthers_173 : decode cX10_readOthers 173 = .ok (.ldc_w 266, 3) := dk_19 1 10 (dk_at dksX10_readOthers_7 10 rfl rfl)
theorem dX10_readOthers_176 : decode cX10_readOthers 176 = .ok (.invokestatic 250, 3) := dk_184 0 250 (dk_at dksX10_readOthers_7 13 rfl rfl)
theorem dX10_readOthers_179 : decode cX10_readOthers 179 = .ok (.if_icmp .ne 19, 3) := dk_160 0 19 (dk_at dksX10_readOthers_7 16 rfl rfl)
theorem dX10_readOthers_182 : decode cX10_readOthers 182 = .ok (.aload_n 0, 1) := dk_42 (dk_at dksX10_readOthers_7 19 rfl rfl)
theorem dX10_readOthers_183 : decode cX10_readOthers 183 = .ok (.getfield 66, 3) := dk_180 0 66 (dk_at dksX10_readOthers_7 20 rfl rfl)
theorem dX10_readOthers_186 : decode cX10_readOthers 186 = .ok (.iconst 0, 1) := dk_3 (dk_at dksX10_readOthers_7 23 rfl rfl)
theorem dX10_readOthers_187 : decode cX10_readOthers 187 = .ok (.aload_n 0, 1) := dk_42 (dk_at dksX10_readOthers_8 0 rfl rfl)
theorem dX10_readOthers_188 : decode cX10_readOthers 188 = .ok (.iconst 1, 1) := dk_4 (dk_at dksX10_readOthers_8 1 rfl rfl)
theorem dX10_readOthers_189 : decode cX10_readOthers 189 = .ok (.bipush 99, 2) := dk_16 99 (dk_at dksX10_readOthers_8 2 rfl rfl)
theorem dX10_readOthers_191 : decode cX10_readOthers 191 = .ok (.invokevirtual 254, 3) := dk_182 0 254 (dk_at dksX10_readOthers_8 4 rfl rfl)
theorem dX10_readOthers_194 : decode cX10_readOthers 194 = .ok (.iastore, 1) := dk_79 (dk_at dksX10_readOthers_8 7 rfl rfl)
theorem dX10_readOthers_195 : decode cX10_readOthers 195 = .ok (.goto 81, 3) := dk_167 0 81 (dk_at dksX10_readOthers_8 8 rfl rfl)
theorem dX10_readOthers_198 : decode cX10_readOthers 198 = .ok (.iload_n 1, 1) := dk_27 (dk_at dksX10_readOthers_8 11 rfl rfl)
theorem dX10_readOthers_199 : decode cX10_readOthers 199 = .ok (.ldc_w 268, 3) := dk_19 1 12 (dk_at dksX10_readOthers_8 12 rfl rfl)
theorem dX10_readOthers_202 : decode cX10_readOthers 202 = .ok (.invokestatic 250, 3) := dk_184 0 250 (dk_at dksX10_readOthers_8 15 rfl rfl)
theorem dX10_readOthers_205 : decode cX10_readOthers 205 = .ok (.if_icmp .ne 19, 3) := dk_160 0 19 (dk_at dksX10_readOthers_8 18 rfl rfl)
theorem dX10_readOthers_208 : decode cX10_readOthers 208 = .ok (.aload_n 0, 1) := dk_42 (dk_at dksX10_readOthers_8 21 rfl rfl)
theorem dX10_readOthers_209 : decode cX10_readOthers 209 = .ok (.getfield 66, 3) := dk_180 0 66 (dk_at dksX10_readOthers_9 0 rfl rfl)
theorem dX10_readOthers_212 : decode cX10_readOthers 212 = .ok (.iconst 1, 1) := dk_4 (dk_at dksX10_readOthers_9 3 rfl rfl)
theorem dX10_readOthers_213 : decode cX10_readOthers 213 = .ok (.aload_n 0, 1) := dk_42 (dk_at dksX10_readOthers_9 4 rfl rfl)
theorem dX10_readOthers_214 : decode cX10_readOthers 214 = .ok (.iconst 0, 1) := dk_3 (dk_at dksX10_readOthers_9 5 rfl rfl)
theorem dX10_readOthers_215 : decode cX10_readOthers 215 = .ok (.bipush 16, 2) := dk_16 16 (dk_at dksX10_readOthers_9 6 rfl rfl)
theorem dX10_readOthers_217 : decode cX10_readOthers 217 = .ok (.invokevirtual 254, 3) := dk_182 0 254 (dk_at dksX10_readOthers_9 8 rfl rfl)
theorem dX10_readOthers_220 : decode cX10_readOthers 220 = .ok (.iastore, 1) := dk_79 (dk_at dksX10_readOthers_9 11 rfl rfl)
theorem dX10_readOthers_221 : decode cX10_readOthers 221 = .ok (.goto 55, 3) := dk_167 0 55 (dk_at dksX10_readOthers_9 12 rfl rfl)
theorem dX10_readOthers_224 : decode cX10_readOthers 224 = .ok (.iload_n 1, 1) := dk_27 (dk_at dksX10_readOthers_9 15 rfl rfl)
theorem dX10_readOthers_225 : decode cX10_readOthers 225 = .ok (.ldc_w 270, 3) := dk_19 1 14 (dk_at dksX10_readOthers_9 16 rfl rfl)
theorem dX10_readOthers_228 : decode cX10_readOthers 228 = .ok (.invokestatic 250, 3) := dk_184 0 250 (dk_at dksX10_readOthers_9 19 rfl rfl)
theorem dX10_readOthers_231 : decode cX10_readOthers 231 = .ok (.if_icmp .ne 19, 3) := dk_160 0 19 (dk_at dksX10_readOthers_10 0 rfl rfl)
theorem dX10_readOthers_234 : decode cX10_readOthers 234 = .ok (.aload_n 0, 1) := dk_42 (dk_at dksX10_readOthers_10 3 rfl rfl)
theorem dX10_readOthers_235 : decode cX10_readOthers 235 = .ok (.getfield 66, 3) := dk_180 0 66 (dk_at dksX10_readOthers_10 4 rfl rfl)
theorem dX10_readOthers_238 : decode cX10_readOthers 238 = .ok (.iconst 2, 1) := dk_5 (dk_at dksX10_readOthers_10 7 rfl rfl)
theorem dX10_readOthers_239 : decode cX10_readOthers 239 = .ok (.aload_n 0, 1) := dk_42 (dk_at dksX10_readOthers_10 8 rfl rfl)
theorem dX10_readOthers_240 : decode cX10_readOthers 240 = .ok (.iconst 0, 1) := dk_3 (dk_at dksX10_readOthers_10 9 rfl rfl)
theorem dX10_readOthers_241 : decode cX10_readOthers 241 = .ok (.bipush 16, 2) := dk_16 16 (dk_at dksX10_readOthers_10 10 rfl rfl)
theorem dX10_readOthers_243 : decode cX10_readOthers 243 = .ok (.invokevirtual 254, 3) := dk_182 0 254 (dk_at dksX10_readOthers_10 12 rfl rfl)
theorem dX10_readOthers_246 : decode cX10_readOthers 246 = .ok (.iastore, 1) := dk_79 (dk_at dksX10_readOthers_10 15 rfl rfl)
theorem dX10_readOthers_247 : decode cX10_readOthers 247 = .ok (.goto 29, 3) := dk_167 0 29 (dk_at dksX10_readOthers_10 16 rfl rfl)
theorem dX10_readOthers_250 : decode cX10_readOthers 250 = .ok (.aload_n 0, 1) := dk_42 (dk_at dksX10_readOthers_10 19 rfl rfl)
theorem dX10_readOthers_251 : decode cX10_readOthers 251 = .ok (.getfield 66, 3) := dk_180 0 66 (dk_at dksX10_readOthers_10 20 rfl rfl)
theorem dX10_readOthers_254 : decode cX10_readOthers 254 = .ok (.iconst 3, 1) := dk_6 (dk_at dksX10_readOthers_10 23 rfl rfl)
theorem dX10_readOthers_255 : decode cX10_readOthers 255 = .ok (.aload_n 0, 1) := dk_42 (dk_at dksX10_readOthers_11 0 rfl rfl)
theorem dX10_readOthers_256 : decode cX10_readOthers 256 = .ok (.iconst 0, 1) := dk_3 (dk_at dksX10_readOthers_11 1 rfl rfl)
theorem dX10_readOthers_257 : decode cX10_readOthers 257 = .ok (.bipush 99, 2) := dk_16 99 (dk_at dksX10_readOthers_11 2 rfl rfl)
theorem dX10_readOthers_259 : decode cX10_readOthers 259 = .ok (.invokevirtual 254, 3) := dk_182 0 254 (dk_at dksX10_readOthers_11 4 rfl rfl)
theorem dX10_readOthers_262 : decode cX10_readOthers 262 = .ok (.iastore, 1) := dk_79 (dk_at dksX10_readOthers_11 7 rfl rfl)
theorem dX10_readOthers_263 : decode cX10_readOthers 263 = .ok (.aload_n 0, 1) := dk_42 (dk_at dksX10_readOthers_11 8 rfl rfl)
theorem dX10_readOthers_264 : decode cX10_readOthers 264 = .ok (.getfield 66, 3) := dk_180 0 66 (dk_at dksX10_readOthers_11 9 rfl rfl)
theorem dX10_readOthers_267 : decode cX10_readOthers 267 = .ok (.iconst 4, 1) := dk_7 (dk_at dksX10_readOthers_11 12 rfl rfl)
theorem dX10_readOthers_268 : decode cX10_readOthers 268 = .ok (.aload_n 0, 1) := dk_42 (dk_at dksX10_readOthers_11 13 rfl rfl)
theorem dX10_readOthers_269 : decode cX10_readOthers 269 = .ok (.iconst 1, 1) := dk_4 (dk_at dksX10_readOthers_11 14 rfl rfl)
theorem dX10_readOthers_270 : decode cX10_readOthers 270 = .ok (.bipush 9, 2) := dk_16 9 (dk_at dksX10_readOthers_11 15 rfl rfl)
theorem dX10_readOthers_272 : decode cX10_readOthers 272 = .ok (.invokevirtual 254, 3) := dk_182 0 254 (dk_at dksX10_readOthers_11 17 rfl rfl)
theorem dX10_readOthers_275 : decode cX10_readOthers 275 = .ok (.iastore, 1) := dk_79 (dk_at dksX10_readOthers_11 20 rfl rfl)
theorem dX10_readOthers_276 : decode cX10_readOthers 276 = .ok (.return_, 1) := dk_177 (dk_at dksX10_readOthers_11 21 rfl rfl)
abbrev cX10_sign : ByteArray := prog_19_method_15_code
def yX10_sign : MethodName := ⟨RX10, "sign", "(I)V"⟩
def dkwX10_sign_1 : List UInt8 := [42, 182, 0, 182, 153, 0, 13, 42, 89, 180, 0, 159, 4, 96, 181, 0, 159, 177]
abbrev dktX10_sign_1 : List UInt8 := dkwX10_sign_1 ++ []
def dkwX10_sign_0 : List UInt8 := [42, 182, 0, 182, 153, 0, 20, 42, 182, 0, 165, 27, 159, 0, 12, 42, 4, 42, 180, 0, 159, 182, 0, 189]
abbrev dktX10_sign_0 : List UInt8 := dkwX10_sign_0 ++ dktX10_sign_1
theorem dksX10_sign_0 : cX10_sign.data.toList.drop 0 = dktX10_sign_0 := by decide +kernel
theorem dksX10_sign_1 : cX10_sign.data.toList.drop 24 = dktX10_sign_1 := dk_seg dksX10_sign_0 24 rfl rfl
theorem dX10_sign_0 : decode cX10_sign 0 = .ok (.aload_n 0, 1) := dk_42 (dk_at dksX10_sign_0 0 rfl rfl)
theorem dX10_sign_1 : decode cX10_sign 1 = .ok (.invokevirtual 182, 3) := dk_182 0 182 (dk_at dksX10_sign_0 1 rfl rfl)
theorem dX10_sign_4 : decode cX10_sign 4 = .ok (.ifCond .eq 20, 3) := dk_153 0 20 (dk_at dksX10_sign_0 4 rfl rfl)
theorem dX10_sign_7 : decode cX10_sign 7 = .ok (.aload_n 0, 1) := dk_42 (dk_at dksX10_sign_0 7 rfl rfl)
theorem dX10_sign_8 : decode cX10_sign 8 = .ok (.invokevirtual 165, 3) := dk_182 0 165 (dk_at dksX10_sign_0 8 rfl rfl)
theorem dX10_sign_11 : decode cX10_sign 11 = .ok (.iload_n 1, 1) := dk_27 (dk_at dksX10_sign_0 11 rfl rfl)
theorem dX10_sign_12 : decode cX10_sign 12 = .ok (.if_icmp .eq 12, 3) := dk_159 0 12 (dk_at dksX10_sign_0 12 rfl rfl)
theorem dX10_sign_15 : decode cX10_sign 15 = .ok (.aload_n 0, 1) := dk_42 (dk_at dksX10_sign_0 15 rfl rfl)
theorem dX10_sign_16 : decode cX10_sign 16 = .ok (.iconst 1, 1) := dk_4 (dk_at dksX10_sign_0 16 rfl rfl)
theorem dX10_sign_17 : decode cX10_sign 17 = .ok (.aload_n 0, 1) := dk_42 (dk_at dksX10_sign_0 17 rfl rfl)
theorem dX10_sign_18 : decode cX10_sign 18 = .ok (.getfield 159, 3) := dk_180 0 159 (dk_at dksX10_sign_0 18 rfl rfl)
theorem dX10_sign_21 : decode cX10_sign 21 = .ok (.invokevirtual 189, 3) := dk_182 0 189 (dk_at dksX10_sign_0 21 rfl rfl)
theorem dX10_sign_24 : decode cX10_sign 24 = .ok (.aload_n 0, 1) := dk_42 (dk_at dksX10_sign_1 0 rfl rfl)
theorem dX10_sign_25 : decode cX10_sign 25 = .ok (.invokevirtual 182, 3) := dk_182 0 182 (dk_at dksX10_sign_1 1 rfl rfl)
theorem dX10_sign_28 : decode cX10_sign 28 = .ok (.ifCond .eq 13, 3) := dk_153 0 13 (dk_at dksX10_sign_1 4 rfl rfl)
theorem dX10_sign_31 : decode cX10_sign 31 = .ok (.aload_n 0, 1) := dk_42 (dk_at dksX10_sign_1 7 rfl rfl)
theorem dX10_sign_32 : decode cX10_sign 32 = .ok (.dup, 1) := dk_89 (dk_at dksX10_sign_1 8 rfl rfl)
theorem dX10_sign_33 : decode cX10_sign 33 = .ok (.getfield 159, 3) := dk_180 0 159 (dk_at dksX10_sign_1 9 rfl rfl)
theorem dX10_sign_36 : decode cX10_sign 36 = .ok (.iconst 1, 1) := dk_4 (dk_at dksX10_sign_1 12 rfl rfl)
theorem dX10_sign_37 : decode cX10_sign 37 = .ok (.iadd, 1) := dk_96 (dk_at dksX10_sign_1 13 rfl rfl)
theorem dX10_sign_38 : decode cX10_sign 38 = .ok (.putfield 159, 3) := dk_181 0 159 (dk_at dksX10_sign_1 14 rfl rfl)
theorem dX10_sign_41 : decode cX10_sign 41 = .ok (.return_, 1) := dk_177 (dk_at dksX10_sign_1 17 rfl rfl)
abbrev cX10_result : ByteArray := prog_19_method_18_code
def yX10_result : MethodName := ⟨RX10, "result", "(I)I"⟩
def dkwX10_result_1 : List UInt8 := [16, 10, 100, 172]
abbrev dktX10_result_1 : List UInt8 := dkwX10_result_1 ++ []
def dkwX10_result_0 : List UInt8 := [42, 42, 180, 0, 153, 181, 0, 17, 42, 182, 0, 182, 153, 0, 7, 27, 167, 0, 10, 42, 180, 0, 156]
abbrev dktX10_result_0 : List UInt8 := dkwX10_result_0 ++ dktX10_result_1
theorem dksX10_result_0 : cX10_result.data.toList.drop 0 = dktX10_result_0 := by decide +kernel
theorem dksX10_result_1 : cX10_result.data.toList.drop 23 = dktX10_result_1 := dk_seg dksX10_result_0 23 rfl rfl
theorem dX10_result_0 : decode cX10_result 0 = .ok (.aload_n 0, 1) := dk_42 (dk_at dksX10_result_0 0 rfl rfl)
theorem dX10_result_1 : decode cX10_result 1 = .ok (.aload_n 0, 1) := dk_42 (dk_at dksX10_result_0 1 rfl rfl)
theorem dX10_result_2 : decode cX10_result 2 = .ok (.getfield 153, 3) := dk_180 0 153 (dk_at dksX10_result_0 2 rfl rfl)
theorem dX10_result_5 : decode cX10_result 5 = .ok (.putfield 17, 3) := dk_181 0 17 (dk_at dksX10_result_0 5 rfl rfl)
theorem dX10_result_8 : decode cX10_result 8 = .ok (.aload_n 0, 1) := dk_42 (dk_at dksX10_result_0 8 rfl rfl)
theorem dX10_result_9 : decode cX10_result 9 = .ok (.invokevirtual 182, 3) := dk_182 0 182 (dk_at dksX10_result_0 9 rfl rfl)
theorem dX10_result_12 : decode cX10_result 12 = .ok (.ifCond .eq 7, 3) := dk_153 0 7 (dk_at dksX10_result_0 12 rfl rfl)
theorem dX10_result_15 : decode cX10_result 15 = .ok (.iload_n 1, 1) := dk_27 (dk_at dksX10_result_0 15 rfl rfl)
theorem dX10_result_16 : decode cX10_result 16 = .ok (.goto 10, 3) := dk_167 0 10 (dk_at dksX10_result_0 16 rfl rfl)
theorem dX10_result_19 : decode cX10_result 19 = .ok (.aload_n 0, 1) := dk_42 (dk_at dksX10_result_0 19 rfl rfl)
theorem dX10_result_20 : decode cX10_result 20 = .ok (.getfield 156, 3) := dk_180 0 156 (dk_at dksX10_result_0 20 rfl rfl)
theorem dX10_result_23 : decode cX10_result 23 = .ok (.bipush 10, 2) := dk_16 10 (dk_at dksX10_result_1 0 rfl rfl)
theorem dX10_result_25 : decode cX10_result 25 = .ok (.isub, 1) := dk_100 (dk_at dksX10_result_1 2 rfl rfl)
theorem dX10_result_26 : decode cX10_result 26 = .ok (.ireturn, 1) := dk_172 (dk_at dksX10_result_1 3 rfl rfl)
abbrev cX10_law : ByteArray := prog_19_method_37_code
def yX10_law : MethodName := ⟨RX10, "law", "(I)I"⟩
def dkwX10_law_5 : List UInt8 := [42, 180, 0, 75, 42, 180, 0, 81, 42, 180, 1, 57, 182, 0, 229, 28, 172]
abbrev dktX10_law_5 : List UInt8 := dkwX10_law_5 ++ []
def dkwX10_law_4 : List UInt8 := [42, 180, 1, 57, 181, 0, 233, 42, 42, 180, 0, 72, 42, 180, 0, 78, 42, 180, 1, 57, 182, 0, 229, 42]
abbrev dktX10_law_4 : List UInt8 := dkwX10_law_4 ++ dktX10_law_5
def dkwX10_law_3 : List UInt8 := [42, 180, 0, 159, 182, 0, 189, 42, 4, 182, 1, 53, 61, 42, 180, 0, 153, 2, 159, 0, 5, 28, 172, 42]
abbrev dktX10_law_3 : List UInt8 := dkwX10_law_3 ++ dktX10_law_4
def dkwX10_law_2 : List UInt8 := [3, 181, 1, 57, 42, 182, 1, 72, 42, 182, 0, 182, 153, 0, 19, 42, 182, 1, 26, 153, 0, 12, 42, 4]
abbrev dktX10_law_2 : List UInt8 := dkwX10_law_2 ++ dktX10_law_3
def dkwX10_law_1 : List UInt8 := [163, 0, 7, 4, 167, 0, 4, 3, 4, 4, 182, 1, 19, 154, 0, 5, 3, 172, 42, 27, 182, 1, 23, 42]
abbrev dktX10_law_1 : List UInt8 := dkwX10_law_1 ++ dktX10_law_2
def dkwX10_law_0 : List UInt8 := [42, 3, 181, 0, 3, 42, 27, 155, 0, 22, 27, 42, 180, 0, 150, 163, 0, 14, 27, 17, 0, 150]
abbrev dktX10_law_0 : List UInt8 := dkwX10_law_0 ++ dktX10_law_1
theorem dksX10_law_0 : cX10_law.data.toList.drop 0 = dktX10_law_0 := by decide +kernel
theorem dksX10_law_1 : cX10_law.data.toList.drop 22 = dktX10_law_1 := dk_seg dksX10_law_0 22 rfl rfl
theorem dksX10_law_2 : cX10_law.data.toList.drop 46 = dktX10_law_2 := dk_seg dksX10_law_1 24 rfl rfl
theorem dksX10_law_3 : cX10_law.data.toList.drop 70 = dktX10_law_3 := dk_seg dksX10_law_2 24 rfl rfl
theorem dksX10_law_4 : cX10_law.data.toList.drop 94 = dktX10_law_4 := dk_seg dksX10_law_3 24 rfl rfl
theorem dksX10_law_5 : cX10_law.data.toList.drop 118 = dktX10_law_5 := dk_seg dksX10_law_4 24 rfl rfl
theorem dX10_law_0 : decode cX10_law 0 = .ok (.aload_n 0, 1) := dk_42 (dk_at dksX10_law_0 0 rfl rfl)
theorem dX10_law_1 : decode cX10_law 1 = .ok (.iconst 0, 1) := dk_3 (dk_at dksX10_law_0 1 rfl rfl)
theorem dX10_law_2 : decode cX10_law 2 = .ok (.putfield 3, 3) := dk_181 0 3 (dk_at dksX10_law_0 2 rfl rfl)
theorem dX10_law_5 : decode cX10_law 5 = .ok (.aload_n 0, 1) := dk_42 (dk_at dksX10_law_0 5 rfl rfl)
theorem dX10_law_6 : decode cX10_law 6 = .ok (.iload_n 1, 1) := dk_27 (dk_at dksX10_law_0 6 rfl rfl)
theorem dX10_law_7 : decode cX10_law 7 = .ok (.ifCond .lt 22, 3) := dk_155 0 22 (dk_at dksX10_law_0 7 rfl rfl)
theorem dX10_law_10 : decode cX10_law 10 = .ok (.iload_n 1, 1) := dk_27 (dk_at dksX10_law_0 10 rfl rfl)
theorem dX10_law_11 : decode cX10_law 11 = .ok (.aload_n 0, 1) := dk_42 (dk_at dksX10_law_0 11 rfl rfl)
theorem dX10_law_12 : decode cX10_law 12 = .ok (.getfield 150, 3) := dk_180 0 150 (dk_at dksX10_law_0 12 rfl rfl)
theorem dX10_law_15 : decode cX10_law 15 = .ok (.if_icmp .gt 14, 3) := dk_163 0 14 (dk_at dksX10_law_0 15 rfl rfl)
theorem dX10_law_18 : decode cX10_law 18 = .ok (.iload_n 1, 1) := dk_27 (dk_at dksX10_law_0 18 rfl rfl)
theorem dX10_law_19 : decode cX10_law 19 = .ok (.sipush 150, 3) := dk_17 0 150 (dk_at dksX10_law_0 19 rfl rfl)
theorem dX10_law_22 : decode cX10_law 22 = .ok (.if_icmp .gt 7, 3) := dk_163 0 7 (dk_at dksX10_law_1 0 rfl rfl)
theorem dX10_law_25 : decode cX10_law 25 = .ok (.iconst 1, 1) := dk_4 (dk_at dksX10_law_1 3 rfl rfl)
theorem dX10_law_26 : decode cX10_law 26 = .ok (.goto 4, 3) := dk_167 0 4 (dk_at dksX10_law_1 4 rfl rfl)
theorem dX10_law_29 : decode cX10_law 29 = .ok (.iconst 0, 1) := dk_3 (dk_at dksX10_law_1 7 rfl rfl)
theorem dX10_law_30 : decode cX10_law 30 = .ok (.iconst 1, 1) := dk_4 (dk_at dksX10_law_1 8 rfl rfl)
theorem dX10_law_31 : decode cX10_law 31 = .ok (.iconst 1, 1) := dk_4 (dk_at dksX10_law_1 9 rfl rfl)
theorem dX10_law_32 : decode cX10_law 32 = .ok (.invokevirtual 275, 3) := dk_182 1 19 (dk_at dksX10_law_1 10 rfl rfl)
theorem dX10_law_35 : decode cX10_law 35 = .ok (.ifCond .ne 5, 3) := dk_154 0 5 (dk_at dksX10_law_1 13 rfl rfl)
theorem dX10_law_38 : decode cX10_law 38 = .ok (.iconst 0, 1) := dk_3 (dk_at dksX10_law_1 16 rfl rfl)
theorem dX10_law_39 : decode cX10_law 39 = .ok (.ireturn, 1) := dk_172 (dk_at dksX10_law_1 17 rfl rfl)
theorem dX10_law_40 : decode cX10_law 40 = .ok (.aload_n 0, 1) := dk_42 (dk_at dksX10_law_1 18 rfl rfl)
theorem dX10_law_41 : decode cX10_law 41 = .ok (.iload_n 1, 1) := dk_27 (dk_at dksX10_law_1 19 rfl rfl)
theorem dX10_law_42 : decode cX10_law 42 = .ok (.invokevirtual 279, 3) := dk_182 1 23 (dk_at dksX10_law_1 20 rfl rfl)
theorem dX10_law_45 : decode cX10_law 45 = .ok (.aload_n 0, 1) := dk_42 (dk_at dksX10_law_1 23 rfl rfl)
theorem dX10_law_46 : decode cX10_law 46 = .ok (.iconst 0, 1) := dk_3 (dk_at dksX10_law_2 0 rfl rfl)
theorem dX10_law_47 : decode cX10_law 47 = .ok (.putfield 313, 3) := dk_181 1 57 (dk_at dksX10_law_2 1 rfl rfl)
theorem dX10_law_50 : decode cX10_law 50 = .ok (.aload_n 0, 1) := dk_42 (dk_at dksX10_law_2 4 rfl rfl)
theorem dX10_law_51 : decode cX10_law 51 = .ok (.invokevirtual 328, 3) := dk_182 1 72 (dk_at dksX10_law_2 5 rfl rfl)
theorem dX10_law_54 : decode cX10_law 54 = .ok (.aload_n 0, 1) := dk_42 (dk_at dksX10_law_2 8 rfl rfl)
theorem dX10_law_55 : decode cX10_law 55 = .ok (.invokevirtual 182, 3) := dk_182 0 182 (dk_at dksX10_law_2 9 rfl rfl)
theorem dX10_law_58 : decode cX10_law 58 = .ok (.ifCond .eq 19, 3) := dk_153 0 19 (dk_at dksX10_law_2 12 rfl rfl)
theorem dX10_law_61 : decode cX10_law 61 = .ok (.aload_n 0, 1) := dk_42 (dk_at dksX10_law_2 15 rfl rfl)
theorem dX10_law_62 : decode cX10_law 62 = .ok (.invokevirtual 282, 3) := dk_182 1 26 (dk_at dksX10_law_2 16 rfl rfl)
theorem dX10_law_65 : decode cX10_law 65 = .ok (.ifCond .eq 12, 3) := dk_153 0 12 (dk_at dksX10_law_2 19 rfl rfl)
theorem dX10_law_68 : decode cX10_law 68 = .ok (.aload_n 0, 1) := dk_42 (dk_at dksX10_law_2 22 rfl rfl)
theorem dX10_law_69 : decode cX10_law 69 = .ok (.iconst 1, 1) := dk_4 (dk_at dksX10_law_2 23 rfl rfl)
theorem dX10_law_70 : decode cX10_law 70 = .ok (.aload_n 0, 1) := dk_42 (dk_at dksX10_law_3 0 rfl rfl)
theorem dX10_law_71 : decode cX10_law 71 = .ok (.getfield 159, 3) := dk_180 0 159 (dk_at dksX10_law_3 1 rfl rfl)
theorem dX10_law_74 : decode cX10_law 74 = .ok (.invokevirtual 189, 3) := dk_182 0 189 (dk_at dksX10_law_3 4 rfl rfl)
theorem dX10_law_77 : decode cX10_law 77 = .ok (.aload_n 0, 1) := dk_42 (dk_at dksX10_law_3 7 rfl rfl)
theorem dX10_law_78 : decode cX10_law 78 = .ok (.iconst 1, 1) := dk_4 (dk_at dksX10_law_3 8 rfl rfl)
theorem dX10_law_79 : decode cX10_law 79 = .ok (.invokevirtual 309, 3) := dk_182 1 53 (dk_at dksX10_law_3 9 rfl rfl)
theorem dX10_law_82 : decode cX10_law 82 = .ok (.istore_n 2, 1) := dk_61 (dk_at dksX10_law_3 12 rfl rfl)
theorem dX10_law_83 : decode cX10_law 83 = .ok (.aload_n 0, 1) := dk_42 (dk_at dksX10_law_3 13 rfl rfl)
theorem dX10_law_84 : decode cX10_law 84 = .ok (.getfield 153, 3) := dk_180 0 153 (dk_at dksX10_law_3 14 rfl rfl)
theorem dX10_law_87 : decode cX10_law 87 = .ok (.iconst (-1), 1) := dk_2 (dk_at dksX10_law_3 17 rfl rfl)
theorem dX10_law_88 : decode cX10_law 88 = .ok (.if_icmp .eq 5, 3) := dk_159 0 5 (dk_at dksX10_law_3 18 rfl rfl)
theorem dX10_law_91 : decode cX10_law 91 = .ok (.iload_n 2, 1) := dk_28 (dk_at dksX10_law_3 21 rfl rfl)
theorem dX10_law_92 : decode cX10_law 92 = .ok (.ireturn, 1) := dk_172 (dk_at dksX10_law_3 22 rfl rfl)
theorem dX10_law_93 : decode cX10_law 93 = .ok (.aload_n 0, 1) := dk_42 (dk_at dksX10_law_3 23 rfl rfl)
theorem dX10_law_94 : decode cX10_law 94 = .ok (.aload_n 0, 1) := dk_42 (dk_at dksX10_law_4 0 rfl rfl)
theorem dX10_law_95 : decode cX10_law 95 = .ok (.getfield 313, 3) := dk_180 1 57 (dk_at dksX10_law_4 1 rfl rfl)
theorem dX10_law_98 : decode cX10_law 98 = .ok (.putfield 233, 3) := dk_181 0 233 (dk_at dksX10_law_4 4 rfl rfl)
theorem dX10_law_101 : decode cX10_law 101 = .ok (.aload_n 0, 1) := dk_42 (dk_at dksX10_law_4 7 rfl rfl)
theorem dX10_law_102 : decode cX10_law 102 = .ok (.aload_n 0, 1) := dk_42 (dk_at dksX10_law_4 8 rfl rfl)
theorem dX10_law_103 : decode cX10_law 103 = .ok (.getfield 72, 3) := dk_180 0 72 (dk_at dksX10_law_4 9 rfl rfl)
theorem dX10_law_106 : decode cX10_law 106 = .ok (.aload_n 0, 1) := dk_42 (dk_at dksX10_law_4 12 rfl rfl)
theorem dX10_law_107 : decode cX10_law 107 = .ok (.getfield 78, 3) := dk_180 0 78 (dk_at dksX10_law_4 13 rfl rfl)
theorem dX10_law_110 : decode cX10_law 110 = .ok (.aload_n 0, 1) := dk_42 (dk_at dksX10_law_4 16 rfl rfl)
theorem dX10_law_111 : decode cX10_law 111 = .ok (.getfield 313, 3) := dk_180 1 57 (dk_at dksX10_law_4 17 rfl rfl)
theorem dX10_law_114 : decode cX10_law 114 = .ok (.invokevirtual 229, 3) := dk_182 0 229 (dk_at dksX10_law_4 20 rfl rfl)
theorem dX10_law_117 : decode cX10_law 117 = .ok (.aload_n 0, 1) := dk_42 (dk_at dksX10_law_4 23 rfl rfl)
theorem dX10_law_118 : decode cX10_law 118 = .ok (.aload_n 0, 1) := dk_42 (dk_at dksX10_law_5 0 rfl rfl)
theorem dX10_law_119 : decode cX10_law 119 = .ok (.getfield 75, 3) := dk_180 0 75 (dk_at dksX10_law_5 1 rfl rfl)
theorem dX10_law_122 : decode cX10_law 122 = .ok (.aload_n 0, 1) := dk_42 (dk_at dksX10_law_5 4 rfl rfl)
theorem dX10_law_123 : decode cX10_law 123 = .ok (.getfield 81, 3) := dk_180 0 81 (dk_at dksX10_law_5 5 rfl rfl)
theorem dX10_law_126 : decode cX10_law 126 = .ok (.aload_n 0, 1) := dk_42 (dk_at dksX10_law_5 8 rfl rfl)
theorem dX10_law_127 : decode cX10_law 127 = .ok (.getfield 313, 3) := dk_180 1 57 (dk_at dksX10_law_5 9 rfl rfl)
theorem dX10_law_130 : decode cX10_law 130 = .ok (.invokevirtual 229, 3) := dk_182 0 229 (dk_at dksX10_law_5 12 rfl rfl)
theorem dX10_law_133 : decode cX10_law 133 = .ok (.iload_n 2, 1) := dk_28 (dk_at dksX10_law_5 15 rfl rfl)
theorem dX10_law_134 : decode cX10_law 134 = .ok (.ireturn, 1) := dk_172 (dk_at dksX10_law_5 16 rfl rfl)
abbrev cX10_readSum : ByteArray := prog_19_method_31_code
def yX10_readSum : MethodName := ⟨RX10, "readSum", "()V"⟩
def dkwX10_readSum_2 : List UInt8 := [180, 0, 159, 4, 96, 181, 0, 159, 42, 182, 1, 60, 42, 27, 3, 182, 1, 63, 167, 255, 196, 177]
abbrev dktX10_readSum_2 : List UInt8 := dkwX10_readSum_2 ++ []
def dkwX10_readSum_1 : List UInt8 := [16, 45, 160, 0, 41, 42, 182, 0, 165, 16, 43, 160, 0, 7, 5, 167, 0, 4, 6, 60, 42, 89]
abbrev dktX10_readSum_1 : List UInt8 := dkwX10_readSum_1 ++ dktX10_readSum_2
def dkwX10_readSum_0 : List UInt8 := [42, 182, 1, 60, 42, 182, 0, 182, 153, 0, 59, 42, 182, 0, 165, 16, 43, 159, 0, 12, 42, 182, 0, 165]
abbrev dktX10_readSum_0 : List UInt8 := dkwX10_readSum_0 ++ dktX10_readSum_1
theorem dksX10_readSum_0 : cX10_readSum.data.toList.drop 0 = dktX10_readSum_0 := by decide +kernel
theorem dksX10_readSum_1 : cX10_readSum.data.toList.drop 24 = dktX10_readSum_1 := dk_seg dksX10_readSum_0 24 rfl rfl
theorem dksX10_readSum_2 : cX10_readSum.data.toList.drop 46 = dktX10_readSum_2 := dk_seg dksX10_readSum_1 22 rfl rfl
theorem dX10_readSum_0 : decode cX10_readSum 0 = .ok (.aload_n 0, 1) := dk_42 (dk_at dksX10_readSum_0 0 rfl rfl)
theorem dX10_readSum_1 : decode cX10_readSum 1 = .ok (.invokevirtual 316, 3) := dk_182 1 60 (dk_at dksX10_readSum_0 1 rfl rfl)
theorem dX10_readSum_4 : decode cX10_readSum 4 = .ok (.aload_n 0, 1) := dk_42 (dk_at dksX10_readSum_0 4 rfl rfl)
theorem dX10_readSum_5 : decode cX10_readSum 5 = .ok (.invokevirtual 182, 3) := dk_182 0 182 (dk_at dksX10_readSum_0 5 rfl rfl)
theorem dX10_readSum_8 : decode cX10_readSum 8 = .ok (.ifCond .eq 59, 3) := dk_153 0 59 (dk_at dksX10_readSum_0 8 rfl rfl)
theorem dX10_readSum_11 : decode cX10_readSum 11 = .ok (.aload_n 0, 1) := dk_42 (dk_at dksX10_readSum_0 11 rfl rfl)
theorem dX10_readSum_12 : decode cX10_readSum 12 = .ok (.invokevirtual 165, 3) := dk_182 0 165 (dk_at dksX10_readSum_0 12 rfl rfl)
theorem dX10_readSum_15 : decode cX10_readSum 15 = .ok (.bipush 43, 2) := dk_16 43 (dk_at dksX10_readSum_0 15 rfl rfl)
theorem dX10_readSum_17 : decode cX10_readSum 17 = .ok (.if_icmp .eq 12, 3) := dk_159 0 12 (dk_at dksX10_readSum_0 17 rfl rfl)
theorem dX10_readSum_20 : decode cX10_readSum 20 = .ok (.aload_n 0, 1) := dk_42 (dk_at dksX10_readSum_0 20 rfl rfl)
theorem dX10_readSum_21 : decode cX10_readSum 21 = .ok (.invokevirtual 165, 3) := dk_182 0 165 (dk_at dksX10_readSum_0 21 rfl rfl)
theorem dX10_readSum_24 : decode cX10_readSum 24 = .ok (.bipush 45, 2) := dk_16 45 (dk_at dksX10_readSum_1 0 rfl rfl)
theorem dX10_readSum_26 : decode cX10_readSum 26 = .ok (.if_icmp .ne 41, 3) := dk_160 0 41 (dk_at dksX10_readSum_1 2 rfl rfl)
theorem dX10_readSum_29 : decode cX10_readSum 29 = .ok (.aload_n 0, 1) := dk_42 (dk_at dksX10_readSum_1 5 rfl rfl)
theorem dX10_readSum_30 : decode cX10_readSum 30 = .ok (.invokevirtual 165, 3) := dk_182 0 165 (dk_at dksX10_readSum_1 6 rfl rfl)
theorem dX10_readSum_33 : decode cX10_readSum 33 = .ok (.bipush 43, 2) := dk_16 43 (dk_at dksX10_readSum_1 9 rfl rfl)
theorem dX10_readSum_35 : decode cX10_readSum 35 = .ok (.if_icmp .ne 7, 3) := dk_160 0 7 (dk_at dksX10_readSum_1 11 rfl rfl)
theorem dX10_readSum_38 : decode cX10_readSum 38 = .ok (.iconst 2, 1) := dk_5 (dk_at dksX10_readSum_1 14 rfl rfl)
theorem dX10_readSum_39 : decode cX10_readSum 39 = .ok (.goto 4, 3) := dk_167 0 4 (dk_at dksX10_readSum_1 15 rfl rfl)
theorem dX10_readSum_42 : decode cX10_readSum 42 = .ok (.iconst 3, 1) := dk_6 (dk_at dksX10_readSum_1 18 rfl rfl)
theorem dX10_readSum_43 : decode cX10_readSum 43 = .ok (.istore_n 1, 1) := dk_60 (dk_at dksX10_readSum_1 19 rfl rfl)
theorem dX10_readSum_44 : decode cX10_readSum 44 = .ok (.aload_n 0, 1) := dk_42 (dk_at dksX10_readSum_1 20 rfl rfl)
theorem dX10_readSum_45 : decode cX10_readSum 45 = .ok (.dup, 1) := dk_89 (dk_at dksX10_readSum_1 21 rfl rfl)
theorem dX10_readSum_46 : decode cX10_readSum 46 = .ok (.getfield 159, 3) := dk_180 0 159 (dk_at dksX10_readSum_2 0 rfl rfl)
theorem dX10_readSum_49 : decode cX10_readSum 49 = .ok (.iconst 1, 1) := dk_4 (dk_at dksX10_readSum_2 3 rfl rfl)
theorem dX10_readSum_50 : decode cX10_readSum 50 = .ok (.iadd, 1) := dk_96 (dk_at dksX10_readSum_2 4 rfl rfl)
theorem dX10_readSum_51 : decode cX10_readSum 51 = .ok (.putfield 159, 3) := dk_181 0 159 (dk_at dksX10_readSum_2 5 rfl rfl)
theorem dX10_readSum_54 : decode cX10_readSum 54 = .ok (.aload_n 0, 1) := dk_42 (dk_at dksX10_readSum_2 8 rfl rfl)
theorem dX10_readSum_55 : decode cX10_readSum 55 = .ok (.invokevirtual 316, 3) := dk_182 1 60 (dk_at dksX10_readSum_2 9 rfl rfl)
theorem dX10_readSum_58 : decode cX10_readSum 58 = .ok (.aload_n 0, 1) := dk_42 (dk_at dksX10_readSum_2 12 rfl rfl)
theorem dX10_readSum_59 : decode cX10_readSum 59 = .ok (.iload_n 1, 1) := dk_27 (dk_at dksX10_readSum_2 13 rfl rfl)
theorem dX10_readSum_60 : decode cX10_readSum 60 = .ok (.iconst 0, 1) := dk_3 (dk_at dksX10_readSum_2 14 rfl rfl)
theorem dX10_readSum_61 : decode cX10_readSum 61 = .ok (.invokevirtual 319, 3) := dk_182 1 63 (dk_at dksX10_readSum_2 15 rfl rfl)
theorem dX10_readSum_64 : decode cX10_readSum 64 = .ok (.goto (-60), 3) := dk_167 255 196 (dk_at dksX10_readSum_2 18 rfl rfl)
theorem dX10_readSum_67 : decode cX10_readSum 67 = .ok (.return_, 1) := dk_177 (dk_at dksX10_readSum_2 21 rfl rfl)
abbrev cX10_readProduct : ByteArray := prog_19_method_32_code
def yX10_readProduct : MethodName := ⟨RX10, "readProduct", "()V"⟩
def dkwX10_readProduct_2 : List UInt8 := [180, 0, 159, 4, 96, 181, 0, 159, 42, 182, 1, 66, 42, 27, 3, 182, 1, 63, 167, 255, 196, 177]
abbrev dktX10_readProduct_2 : List UInt8 := dkwX10_readProduct_2 ++ []
def dkwX10_readProduct_1 : List UInt8 := [16, 47, 160, 0, 41, 42, 182, 0, 165, 16, 42, 160, 0, 7, 7, 167, 0, 4, 8, 60, 42, 89]
abbrev dktX10_readProduct_1 : List UInt8 := dkwX10_readProduct_1 ++ dktX10_readProduct_2
def dkwX10_readProduct_0 : List UInt8 := [42, 182, 1, 66, 42, 182, 0, 182, 153, 0, 59, 42, 182, 0, 165, 16, 42, 159, 0, 12, 42, 182, 0, 165]
abbrev dktX10_readProduct_0 : List UInt8 := dkwX10_readProduct_0 ++ dktX10_readProduct_1
theorem dksX10_readProduct_0 : cX10_readProduct.data.toList.drop 0 = dktX10_readProduct_0 := by decide +kernel
theorem dksX10_readProduct_1 : cX10_readProduct.data.toList.drop 24 = dktX10_readProduct_1 := dk_seg dksX10_readProduct_0 24 rfl rfl
theorem dksX10_readProduct_2 : cX10_readProduct.data.toList.drop 46 = dktX10_readProduct_2 := dk_seg dksX10_readProduct_1 22 rfl rfl
theorem dX10_readProduct_0 : decode cX10_readProduct 0 = .ok (.aload_n 0, 1) := dk_42 (dk_at dksX10_readProduct_0 0 rfl rfl)
theorem dX10_readProduct_1 : decode cX10_readProduct 1 = .ok (.invokevirtual 322, 3) := dk_182 1 66 (dk_at dksX10_readProduct_0 1 rfl rfl)
theorem dX10_readProduct_4 : decode cX10_readProduct 4 = .ok (.aload_n 0, 1) := dk_42 (dk_at dksX10_readProduct_0 4 rfl rfl)
theorem dX10_readProduct_5 : decode cX10_readProduct 5 = .ok (.invokevirtual 182, 3) := dk_182 0 182 (dk_at dksX10_readProduct_0 5 rfl rfl)
theorem dX10_readProduct_8 : decode cX10_readProduct 8 = .ok (.ifCond .eq 59, 3) := dk_153 0 59 (dk_at dksX10_readProduct_0 8 rfl rfl)
theorem dX10_readProduct_11 : decode cX10_readProduct 11 = .ok (.aload_n 0, 1) := dk_42 (dk_at dksX10_readProduct_0 11 rfl rfl)
theorem dX10_readProduct_12 : decode cX10_readProduct 12 = .ok (.invokevirtual 165, 3) := dk_182 0 165 (dk_at dksX10_readProduct_0 12 rfl rfl)
theorem dX10_readProduct_15 : decode cX10_readProduct 15 = .ok (.bipush 42, 2) := dk_16 42 (dk_at dksX10_readProduct_0 15 rfl rfl)
theorem dX10_readProduct_17 : decode cX10_readProduct 17 = .ok (.if_icmp .eq 12, 3) := dk_159 0 12 (dk_at dksX10_readProduct_0 17 rfl rfl)
theorem dX10_readProduct_20 : decode cX10_readProduct 20 = .ok (.aload_n 0, 1) := dk_42 (dk_at dksX10_readProduct_0 20 rfl rfl)
theorem dX10_readProduct_21 : decode cX10_readProduct 21 = .ok (.invokevirtual 165, 3) := dk_182 0 165 (dk_at dksX10_readProduct_0 21 rfl rfl)
theorem dX10_readProduct_24 : decode cX10_readProduct 24 = .ok (.bipush 47, 2) := dk_16 47 (dk_at dksX10_readProduct_1 0 rfl rfl)
theorem dX10_readProduct_26 : decode cX10_readProduct 26 = .ok (.if_icmp .ne 41, 3) := dk_160 0 41 (dk_at dksX10_readProduct_1 2 rfl rfl)
theorem dX10_readProduct_29 : decode cX10_readProduct 29 = .ok (.aload_n 0, 1) := dk_42 (dk_at dksX10_readProduct_1 5 rfl rfl)
theorem dX10_readProduct_30 : decode cX10_readProduct 30 = .ok (.invokevirtual 165, 3) := dk_182 0 165 (dk_at dksX10_readProduct_1 6 rfl rfl)
theorem dX10_readProduct_33 : decode cX10_readProduct 33 = .ok (.bipush 42, 2) := dk_16 42 (dk_at dksX10_readProduct_1 9 rfl rfl)
theorem dX10_readProduct_35 : decode cX10_readProduct 35 = .ok (.if_icmp .ne 7, 3) := dk_160 0 7 (dk_at dksX10_readProduct_1 11 rfl rfl)
theorem dX10_readProduct_38 : decode cX10_readProduct 38 = .ok (.iconst 4, 1) := dk_7 (dk_at dksX10_readProduct_1 14 rfl rfl)
theorem dX10_readProduct_39 : decode cX10_readProduct 39 = .ok (.goto 4, 3) := dk_167 0 4 (dk_at dksX10_readProduct_1 15 rfl rfl)
theorem dX10_readProduct_42 : decode cX10_readProduct 42 = .ok (.iconst 5, 1) := dk_8 (dk_at dksX10_readProduct_1 18 rfl rfl)
theorem dX10_readProduct_43 : decode cX10_readProduct 43 = .ok (.istore_n 1, 1) := dk_60 (dk_at dksX10_readProduct_1 19 rfl rfl)
theorem dX10_readProduct_44 : decode cX10_readProduct 44 = .ok (.aload_n 0, 1) := dk_42 (dk_at dksX10_readProduct_1 20 rfl rfl)
theorem dX10_readProduct_45 : decode cX10_readProduct 45 = .ok (.dup, 1) := dk_89 (dk_at dksX10_readProduct_1 21 rfl rfl)
theorem dX10_readProduct_46 : decode cX10_readProduct 46 = .ok (.getfield 159, 3) := dk_180 0 159 (dk_at dksX10_readProduct_2 0 rfl rfl)
theorem dX10_readProduct_49 : decode cX10_readProduct 49 = .ok (.iconst 1, 1) := dk_4 (dk_at dksX10_readProduct_2 3 rfl rfl)
theorem dX10_readProduct_50 : decode cX10_readProduct 50 = .ok (.iadd, 1) := dk_96 (dk_at dksX10_readProduct_2 4 rfl rfl)
theorem dX10_readProduct_51 : decode cX10_readProduct 51 = .ok (.putfield 159, 3) := dk_181 0 159 (dk_at dksX10_readProduct_2 5 rfl rfl)
theorem dX10_readProduct_54 : decode cX10_readProduct 54 = .ok (.aload_n 0, 1) := dk_42 (dk_at dksX10_readProduct_2 8 rfl rfl)
theorem dX10_readProduct_55 : decode cX10_readProduct 55 = .ok (.invokevirtual 322, 3) := dk_182 1 66 (dk_at dksX10_readProduct_2 9 rfl rfl)
theorem dX10_readProduct_58 : decode cX10_readProduct 58 = .ok (.aload_n 0, 1) := dk_42 (dk_at dksX10_readProduct_2 12 rfl rfl)
theorem dX10_readProduct_59 : decode cX10_readProduct 59 = .ok (.iload_n 1, 1) := dk_27 (dk_at dksX10_readProduct_2 13 rfl rfl)
theorem dX10_readProduct_60 : decode cX10_readProduct 60 = .ok (.iconst 0, 1) := dk_3 (dk_at dksX10_readProduct_2 14 rfl rfl)
theorem dX10_readProduct_61 : decode cX10_readProduct 61 = .ok (.invokevirtual 319, 3) := dk_182 1 63 (dk_at dksX10_readProduct_2 15 rfl rfl)
theorem dX10_readProduct_64 : decode cX10_readProduct 64 = .ok (.goto (-60), 3) := dk_167 255 196 (dk_at dksX10_readProduct_2 18 rfl rfl)
theorem dX10_readProduct_67 : decode cX10_readProduct 67 = .ok (.return_, 1) := dk_177 (dk_at dksX10_readProduct_2 21 rfl rfl)
abbrev cX10_readUnit : ByteArray := prog_19_method_36_code
def yX10_readUnit : MethodName := ⟨RX10, "readUnit", "()V"⟩
def dkwX10_readUnit_6 : List UInt8 := [182, 0, 182, 154, 0, 4, 177, 42, 182, 1, 41, 42, 4, 27, 182, 1, 63, 177]
abbrev dktX10_readUnit_6 : List UInt8 := dkwX10_readUnit_6 ++ []
def dkwX10_readUnit_5 : List UInt8 := [167, 0, 40, 42, 182, 1, 95, 60, 27, 2, 160, 0, 12, 42, 4, 42, 180, 0, 159, 182, 0, 189, 42]
abbrev dktX10_readUnit_5 : List UInt8 := dkwX10_readUnit_5 ++ dktX10_readUnit_6
def dkwX10_readUnit_4 : List UInt8 := [167, 0, 63, 42, 182, 1, 29, 19, 1, 93, 184, 0, 250, 160, 0, 13, 42, 7, 16, 7, 182, 1, 90]
abbrev dktX10_readUnit_4 : List UInt8 := dkwX10_readUnit_4 ++ dktX10_readUnit_5
def dkwX10_readUnit_3 : List UInt8 := [167, 0, 86, 42, 182, 1, 29, 19, 1, 88, 184, 0, 250, 160, 0, 13, 42, 8, 16, 6, 182, 1, 90]
abbrev dktX10_readUnit_3 : List UInt8 := dkwX10_readUnit_3 ++ dktX10_readUnit_4
def dkwX10_readUnit_2 : List UInt8 := [182, 0, 165, 184, 0, 186, 153, 0, 19, 42, 3, 42, 3, 17, 3, 231, 182, 0, 254, 182, 1, 63]
abbrev dktX10_readUnit_2 : List UInt8 := dkwX10_readUnit_2 ++ dktX10_readUnit_3
def dkwX10_readUnit_1 : List UInt8 := [182, 1, 72, 42, 16, 41, 182, 1, 50, 42, 89, 180, 0, 193, 4, 100, 181, 0, 193, 167, 0, 112, 42]
abbrev dktX10_readUnit_1 : List UInt8 := dkwX10_readUnit_1 ++ dktX10_readUnit_2
def dkwX10_readUnit_0 : List UInt8 := [42, 182, 0, 182, 154, 0, 4, 177, 42, 182, 0, 165, 16, 40, 160, 0, 31, 42, 4, 182, 1, 69, 42]
abbrev dktX10_readUnit_0 : List UInt8 := dkwX10_readUnit_0 ++ dktX10_readUnit_1
theorem dksX10_readUnit_0 : cX10_readUnit.data.toList.drop 0 = dktX10_readUnit_0 := by decide +kernel
theorem dksX10_readUnit_1 : cX10_readUnit.data.toList.drop 23 = dktX10_readUnit_1 := dk_seg dksX10_readUnit_0 23 rfl rfl
theorem dksX10_readUnit_2 : cX10_readUnit.data.toList.drop 46 = dktX10_readUnit_2 := dk_seg dksX10_readUnit_1 23 rfl rfl
theorem dksX10_readUnit_3 : cX10_readUnit.data.toList.drop 68 = dktX10_readUnit_3 := dk_seg dksX10_readUnit_2 22 rfl rfl
theorem dksX10_readUnit_4 : cX10_readUnit.data.toList.drop 91 = dktX10_readUnit_4 := dk_seg dksX10_readUnit_3 23 rfl rfl
theorem dksX10_readUnit_5 : cX10_readUnit.data.toList.drop 114 = dktX10_readUnit_5 := dk_seg dksX10_readUnit_4 23 rfl rfl
theorem dksX10_readUnit_6 : cX10_readUnit.data.toList.drop 137 = dktX10_readUnit_6 := dk_seg dksX10_readUnit_5 23 rfl rfl
theorem dX10_readUnit_0 : decode cX10_readUnit 0 = .ok (.aload_n 0, 1) := dk_42 (dk_at dksX10_readUnit_0 0 rfl rfl)
theorem dX10_readUnit_1 : decode cX10_readUnit 1 = .ok (.invokevirtual 182, 3) := dk_182 0 182 (dk_at dksX10_readUnit_0 1 rfl rfl)
theorem dX10_readUnit_4 : decode cX10_readUnit 4 = .ok (.ifCond .ne 4, 3) := dk_154 0 4 (dk_at dksX10_readUnit_0 4 rfl rfl)
theorem dX10_readUnit_7 : decode cX10_readUnit 7 = .ok (.return_, 1) := dk_177 (dk_at dksX10_readUnit_0 7 rfl rfl)
theorem dX10_readUnit_8 : decode cX10_readUnit 8 = .ok (.aload_n 0, 1) := dk_42 (dk_at dksX10_readUnit_0 8 rfl rfl)
theorem dX10_readUnit_9 : decode cX10_readUnit 9 = .ok (.invokevirtual 165, 3) := dk_182 0 165 (dk_at dksX10_readUnit_0 9 rfl rfl)
theorem dX10_readUnit_12 : decode cX10_readUnit 12 = .ok (.bipush 40, 2) := dk_16 40 (dk_at dksX10_readUnit_0 12 rfl rfl)
theorem dX10_readUnit_14 : decode cX10_readUnit 14 = .ok (.if_icmp .ne 31, 3) := dk_160 0 31 (dk_at dksX10_readUnit_0 14 rfl rfl)
theorem dX10_readUnit_17 : decode cX10_readUnit 17 = .ok (.aload_n 0, 1) := dk_42 (dk_at dksX10_readUnit_0 17 rfl rfl)
theorem dX10_readUnit_18 : decode cX10_readUnit 18 = .ok (.iconst 1, 1) := dk_4 (dk_at dksX10_readUnit_0 18 rfl rfl)
theorem dX10_readUnit_19 : decode cX10_readUnit 19 = .ok (.invokevirtual 325, 3) := dk_182 1 69 (dk_at dksX10_readUnit_0 19 rfl rfl)
theorem dX10_readUnit_22 : decode cX10_readUnit 22 = .ok (.aload_n 0, 1) := dk_42 (dk_at dksX10_readUnit_0 22 rfl rfl)
theorem dX10_readUnit_23 : decode cX10_readUnit 23 = .ok (.invokevirtual 328, 3) := dk_182 1 72 (dk_at dksX10_readUnit_1 0 rfl rfl)
theorem dX10_readUnit_26 : decode cX10_readUnit 26 = .ok (.aload_n 0, 1) := dk_42 (dk_at dksX10_readUnit_1 3 rfl rfl)
theorem dX10_readUnit_27 : decode cX10_readUnit 27 = .ok (.bipush 41, 2) := dk_16 41 (dk_at dksX10_readUnit_1 4 rfl rfl)
theorem dX10_readUnit_29 : decode cX10_readUnit 29 = .ok (.invokevirtual 306, 3) := dk_182 1 50 (dk_at dksX10_readUnit_1 6 rfl rfl)
theorem dX10_readUnit_32 : decode cX10_readUnit 32 = .ok (.aload_n 0, 1) := dk_42 (dk_at dksX10_readUnit_1 9 rfl rfl)
theorem dX10_readUnit_33 : decode cX10_readUnit 33 = .ok (.dup, 1) := dk_89 (dk_at dksX10_readUnit_1 10 rfl rfl)
theorem dX10_readUnit_34 : decode cX10_readUnit 34 = .ok (.getfield 193, 3) := dk_180 0 193 (dk_at dksX10_readUnit_1 11 rfl rfl)
theorem dX10_readUnit_37 : decode cX10_readUnit 37 = .ok (.iconst 1, 1) := dk_4 (dk_at dksX10_readUnit_1 14 rfl rfl)
theorem dX10_readUnit_38 : decode cX10_readUnit 38 = .ok (.isub, 1) := dk_100 (dk_at dksX10_readUnit_1 15 rfl rfl)
theorem dX10_readUnit_39 : decode cX10_readUnit 39 = .ok (.putfield 193, 3) := dk_181 0 193 (dk_at dksX10_readUnit_1 16 rfl rfl)
theorem dX10_readUnit_42 : decode cX10_readUnit 42 = .ok (.goto 112, 3) := dk_167 0 112 (dk_at dksX10_readUnit_1 19 rfl rfl)
theorem dX10_readUnit_45 : decode cX10_readUnit 45 = .ok (.aload_n 0, 1) := dk_42 (dk_at dksX10_readUnit_1 22 rfl rfl)
theorem dX10_readUnit_46 : decode cX10_readUnit 46 = .ok (.invokevirtual 165, 3) := dk_182 0 165 (dk_at dksX10_readUnit_2 0 rfl rfl)
theorem dX10_readUnit_49 : decode cX10_readUnit 49 = .ok (.invokestatic 186, 3) := dk_184 0 186 (dk_at dksX10_readUnit_2 3 rfl rfl)
theorem dX10_readUnit_52 : decode cX10_readUnit 52 = .ok (.ifCond .eq 19, 3) := dk_153 0 19 (dk_at dksX10_readUnit_2 6 rfl rfl)
theorem dX10_readUnit_55 : decode cX10_readUnit 55 = .ok (.aload_n 0, 1) := dk_42 (dk_at dksX10_readUnit_2 9 rfl rfl)
theorem dX10_readUnit_56 : decode cX10_readUnit 56 = .ok (.iconst 0, 1) := dk_3 (dk_at dksX10_readUnit_2 10 rfl rfl)
theorem dX10_readUnit_57 : decode cX10_readUnit 57 = .ok (.aload_n 0, 1) := dk_42 (dk_at dksX10_readUnit_2 11 rfl rfl)
theorem dX10_readUnit_58 : decode cX10_readUnit 58 = .ok (.iconst 0, 1) := dk_3 (dk_at dksX10_readUnit_2 12 rfl rfl)
theorem dX10_readUnit_59 : decode cX10_readUnit 59 = .ok (.sipush 999, 3) := dk_17 3 231 (dk_at dksX10_readUnit_2 13 rfl rfl)
theorem dX10_readUnit_62 : decode cX10_readUnit 62 = .ok (.invokevirtual 254, 3) := dk_182 0 254 (dk_at dksX10_readUnit_2 16 rfl rfl)
theorem dX10_readUnit_65 : decode cX10_readUnit 65 = .ok (.invokevirtual 319, 3) := dk_182 1 63 (dk_at dksX10_readUnit_2 19 rfl rfl)
theorem dX10_readUnit_68 : decode cX10_readUnit 68 = .ok (.goto 86, 3) := dk_167 0 86 (dk_at dksX10_readUnit_3 0 rfl rfl)
theorem dX10_readUnit_71 : decode cX10_readUnit 71 = .ok (.aload_n 0, 1) := dk_42 (dk_at dksX10_readUnit_3 3 rfl rfl)
theorem dX10_readUnit_72 : decode cX10_readUnit 72 = .ok (.invokevirtual 285, 3) := dk_182 1 29 (dk_at dksX10_readUnit_3 4 rfl rfl)
theorem dX10_readUnit_75 : decode cX10_readUnit 75 = .ok (.ldc_w 344, 3) := dk_19 1 88 (dk_at dksX10_readUnit_3 7 rfl rfl)
theorem dX10_readUnit_78 : decode cX10_readUnit 78 = .ok (.invokestatic 250, 3) := dk_184 0 250 (dk_at dksX10_readUnit_3 10 rfl rfl)
theorem dX10_readUnit_81 : decode cX10_readUnit 81 = .ok (.if_icmp .ne 13, 3) := dk_160 0 13 (dk_at dksX10_readUnit_3 13 rfl rfl)
theorem dX10_readUnit_84 : decode cX10_readUnit 84 = .ok (.aload_n 0, 1) := dk_42 (dk_at dksX10_readUnit_3 16 rfl rfl)
theorem dX10_readUnit_85 : decode cX10_readUnit 85 = .ok (.iconst 5, 1) := dk_8 (dk_at dksX10_readUnit_3 17 rfl rfl)
theorem dX10_readUnit_86 : decode cX10_readUnit 86 = .ok (.bipush 6, 2) := dk_16 6 (dk_at dksX10_readUnit_3 18 rfl rfl)
theorem dX10_readUnit_88 : decode cX10_readUnit 88 = .ok (.invokevirtual 346, 3) := dk_182 1 90 (dk_at dksX10_readUnit_3 20 rfl rfl)
theorem dX10_readUnit_91 : decode cX10_readUnit 91 = .ok (.goto 63, 3) := dk_167 0 63 (dk_at dksX10_readUnit_4 0 rfl rfl)
theorem dX10_readUnit_94 : decode cX10_readUnit 94 = .ok (.aload_n 0, 1) := dk_42 (dk_at dksX10_readUnit_4 3 rfl rfl)
theorem dX10_readUnit_95 : decode cX10_readUnit 95 = .ok (.invokevirtual 285, 3) := dk_182 1 29 (dk_at dksX10_readUnit_4 4 rfl rfl)
theorem dX10_readUnit_98 : decode cX10_readUnit 98 = .ok (.ldc_w 349, 3) := dk_19 1 93 (dk_at dksX10_readUnit_4 7 rfl rfl)
theorem dX10_readUnit_101 : decode cX10_readUnit 101 = .ok (.invokestatic 250, 3) := dk_184 0 250 (dk_at dksX10_readUnit_4 10 rfl rfl)
theorem dX10_readUnit_104 : decode cX10_readUnit 104 = .ok (.if_icmp .ne 13, 3) := dk_160 0 13 (dk_at dksX10_readUnit_4 13 rfl rfl)
theorem dX10_readUnit_107 : decode cX10_readUnit 107 = .ok (.aload_n 0, 1) := dk_42 (dk_at dksX10_readUnit_4 16 rfl rfl)
theorem dX10_readUnit_108 : decode cX10_readUnit 108 = .ok (.iconst 4, 1) := dk_7 (dk_at dksX10_readUnit_4 17 rfl rfl)
theorem dX10_readUnit_109 : decode cX10_readUnit 109 = .ok (.bipush 7, 2) := dk_16 7 (dk_at dksX10_readUnit_4 18 rfl rfl)
theorem dX10_readUnit_111 : decode cX10_readUnit 111 = .ok (.invokevirtual 346, 3) := dk_182 1 90 (dk_at dksX10_readUnit_4 20 rfl rfl)
theorem dX10_readUnit_114 : decode cX10_readUnit 114 = .ok (.goto 40, 3) := dk_167 0 40 (dk_at dksX10_readUnit_5 0 rfl rfl)
theorem dX10_readUnit_117 : decode cX10_readUnit 117 = .ok (.aload_n 0, 1) := dk_42 (dk_at dksX10_readUnit_5 3 rfl rfl)
theorem dX10_readUnit_118 : decode cX10_readUnit 118 = .ok (.invokevirtual 351, 3) := dk_182 1 95 (dk_at dksX10_readUnit_5 4 rfl rfl)
theorem dX10_readUnit_121 : decode cX10_readUnit 121 = .ok (.istore_n 1, 1) := dk_60 (dk_at dksX10_readUnit_5 7 rfl rfl)
theorem dX10_readUnit_122 : decode cX10_readUnit 122 = .ok (.iload_n 1, 1) := dk_27 (dk_at dksX10_readUnit_5 8 rfl rfl)
theorem dX10_readUnit_123 : decode cX10_readUnit 123 = .ok (.iconst (-1), 1) := dk_2 (dk_at dksX10_readUnit_5 9 rfl rfl)
theorem dX10_readUnit_124 : decode cX10_readUnit 124 = .ok (.if_icmp .ne 12, 3) := dk_160 0 12 (dk_at dksX10_readUnit_5 10 rfl rfl)
theorem dX10_readUnit_127 : decode cX10_readUnit 127 = .ok (.aload_n 0, 1) := dk_42 (dk_at dksX10_readUnit_5 13 rfl rfl)
theorem dX10_readUnit_128 : decode cX10_readUnit 128 = .ok (.iconst 1, 1) := dk_4 (dk_at dksX10_readUnit_5 14 rfl rfl)
theorem dX10_readUnit_129 : decode cX10_readUnit 129 = .ok (.aload_n 0, 1) := dk_42 (dk_at dksX10_readUnit_5 15 rfl rfl)
theorem dX10_readUnit_130 : decode cX10_readUnit 130 = .ok (.getfield 159, 3) := dk_180 0 159 (dk_at dksX10_readUnit_5 16 rfl rfl)
theorem dX10_readUnit_133 : decode cX10_readUnit 133 = .ok (.invokevirtual 189, 3) := dk_182 0 189 (dk_at dksX10_readUnit_5 19 rfl rfl)
theorem dX10_readUnit_136 : decode cX10_readUnit 136 = .ok (.aload_n 0, 1) := dk_42 (dk_at dksX10_readUnit_5 22 rfl rfl)
theorem dX10_readUnit_137 : decode cX10_readUnit 137 = .ok (.invokevirtual 182, 3) := dk_182 0 182 (dk_at dksX10_readUnit_6 0 rfl rfl)
theorem dX10_readUnit_140 : decode cX10_readUnit 140 = .ok (.ifCond .ne 4, 3) := dk_154 0 4 (dk_at dksX10_readUnit_6 3 rfl rfl)
theorem dX10_readUnit_143 : decode cX10_readUnit 143 = .ok (.return_, 1) := dk_177 (dk_at dksX10_readUnit_6 6 rfl rfl)
theorem dX10_readUnit_144 : decode cX10_readUnit 144 = .ok (.aload_n 0, 1) := dk_42 (dk_at dksX10_readUnit_6 7 rfl rfl)
theorem dX10_readUnit_145 : decode cX10_readUnit 145 = .ok (.invokevirtual 297, 3) := dk_182 1 41 (dk_at dksX10_readUnit_6 8 rfl rfl)
theorem dX10_readUnit_148 : decode cX10_readUnit 148 = .ok (.aload_n 0, 1) := dk_42 (dk_at dksX10_readUnit_6 11 rfl rfl)
theorem dX10_readUnit_149 : decode cX10_readUnit 149 = .ok (.iconst 1, 1) := dk_4 (dk_at dksX10_readUnit_6 12 rfl rfl)
theorem dX10_readUnit_150 : decode cX10_readUnit 150 = .ok (.iload_n 1, 1) := dk_27 (dk_at dksX10_readUnit_6 13 rfl rfl)
theorem dX10_readUnit_151 : decode cX10_readUnit 151 = .ok (.invokevirtual 319, 3) := dk_182 1 63 (dk_at dksX10_readUnit_6 14 rfl rfl)
theorem dX10_readUnit_154 : decode cX10_readUnit 154 = .ok (.return_, 1) := dk_177 (dk_at dksX10_readUnit_6 17 rfl rfl)
abbrev cX10_opensOne : ByteArray := prog_19_method_30_code
def yX10_opensOne : MethodName := ⟨RX10, "opensOne", "(I)V"⟩
def dkwX10_opensOne_2 : List UInt8 := [180, 0, 193, 4, 96, 181, 0, 193, 177]
abbrev dktX10_opensOne_2 : List UInt8 := dkwX10_opensOne_2 ++ []
def dkwX10_opensOne_1 : List UInt8 := [182, 0, 189, 42, 182, 0, 182, 153, 0, 13, 42, 89, 180, 0, 159, 27, 96, 181, 0, 159, 42, 89]
abbrev dktX10_opensOne_1 : List UInt8 := dkwX10_opensOne_1 ++ dktX10_opensOne_2
def dkwX10_opensOne_0 : List UInt8 := [42, 182, 0, 182, 153, 0, 21, 42, 180, 0, 193, 16, 6, 160, 0, 12, 42, 6, 42, 180, 0, 159]
abbrev dktX10_opensOne_0 : List UInt8 := dkwX10_opensOne_0 ++ dktX10_opensOne_1
theorem dksX10_opensOne_0 : cX10_opensOne.data.toList.drop 0 = dktX10_opensOne_0 := by decide +kernel
theorem dksX10_opensOne_1 : cX10_opensOne.data.toList.drop 22 = dktX10_opensOne_1 := dk_seg dksX10_opensOne_0 22 rfl rfl
theorem dksX10_opensOne_2 : cX10_opensOne.data.toList.drop 44 = dktX10_opensOne_2 := dk_seg dksX10_opensOne_1 22 rfl rfl
theorem dX10_opensOne_0 : decode cX10_opensOne 0 = .ok (.aload_n 0, 1) := dk_42 (dk_at dksX10_opensOne_0 0 rfl rfl)
theorem dX10_opensOne_1 : decode cX10_opensOne 1 = .ok (.invokevirtual 182, 3) := dk_182 0 182 (dk_at dksX10_opensOne_0 1 rfl rfl)
theorem dX10_opensOne_4 : decode cX10_opensOne 4 = .ok (.ifCond .eq 21, 3) := dk_153 0 21 (dk_at dksX10_opensOne_0 4 rfl rfl)
theorem dX10_opensOne_7 : decode cX10_opensOne 7 = .ok (.aload_n 0, 1) := dk_42 (dk_at dksX10_opensOne_0 7 rfl rfl)
theorem dX10_opensOne_8 : decode cX10_opensOne 8 = .ok (.getfield 193, 3) := dk_180 0 193 (dk_at dksX10_opensOne_0 8 rfl rfl)
theorem dX10_opensOne_11 : decode cX10_opensOne 11 = .ok (.bipush 6, 2) := dk_16 6 (dk_at dksX10_opensOne_0 11 rfl rfl)
theorem dX10_opensOne_13 : decode cX10_opensOne 13 = .ok (.if_icmp .ne 12, 3) := dk_160 0 12 (dk_at dksX10_opensOne_0 13 rfl rfl)
theorem dX10_opensOne_16 : decode cX10_opensOne 16 = .ok (.aload_n 0, 1) := dk_42 (dk_at dksX10_opensOne_0 16 rfl rfl)
theorem dX10_opensOne_17 : decode cX10_opensOne 17 = .ok (.iconst 3, 1) := dk_6 (dk_at dksX10_opensOne_0 17 rfl rfl)
theorem dX10_opensOne_18 : decode cX10_opensOne 18 = .ok (.aload_n 0, 1) := dk_42 (dk_at dksX10_opensOne_0 18 rfl rfl)
theorem dX10_opensOne_19 : decode cX10_opensOne 19 = .ok (.getfield 159, 3) := dk_180 0 159 (dk_at dksX10_opensOne_0 19 rfl rfl)
theorem dX10_opensOne_22 : decode cX10_opensOne 22 = .ok (.invokevirtual 189, 3) := dk_182 0 189 (dk_at dksX10_opensOne_1 0 rfl rfl)
theorem dX10_opensOne_25 : decode cX10_opensOne 25 = .ok (.aload_n 0, 1) := dk_42 (dk_at dksX10_opensOne_1 3 rfl rfl)
theorem dX10_opensOne_26 : decode cX10_opensOne 26 = .ok (.invokevirtual 182, 3) := dk_182 0 182 (dk_at dksX10_opensOne_1 4 rfl rfl)
theorem dX10_opensOne_29 : decode cX10_opensOne 29 = .ok (.ifCond .eq 13, 3) := dk_153 0 13 (dk_at dksX10_opensOne_1 7 rfl rfl)
theorem dX10_opensOne_32 : decode cX10_opensOne 32 = .ok (.aload_n 0, 1) := dk_42 (dk_at dksX10_opensOne_1 10 rfl rfl)
theorem dX10_opensOne_33 : decode cX10_opensOne 33 = .ok (.dup, 1) := dk_89 (dk_at dksX10_opensOne_1 11 rfl rfl)
theorem dX10_opensOne_34 : decode cX10_opensOne 34 = .ok (.getfield 159, 3) := dk_180 0 159 (dk_at dksX10_opensOne_1 12 rfl rfl)
theorem dX10_opensOne_37 : decode cX10_opensOne 37 = .ok (.iload_n 1, 1) := dk_27 (dk_at dksX10_opensOne_1 15 rfl rfl)
theorem dX10_opensOne_38 : decode cX10_opensOne 38 = .ok (.iadd, 1) := dk_96 (dk_at dksX10_opensOne_1 16 rfl rfl)
theorem dX10_opensOne_39 : decode cX10_opensOne 39 = .ok (.putfield 159, 3) := dk_181 0 159 (dk_at dksX10_opensOne_1 17 rfl rfl)
theorem dX10_opensOne_42 : decode cX10_opensOne 42 = .ok (.aload_n 0, 1) := dk_42 (dk_at dksX10_opensOne_1 20 rfl rfl)
theorem dX10_opensOne_43 : decode cX10_opensOne 43 = .ok (.dup, 1) := dk_89 (dk_at dksX10_opensOne_1 21 rfl rfl)
theorem dX10_opensOne_44 : decode cX10_opensOne 44 = .ok (.getfield 193, 3) := dk_180 0 193 (dk_at dksX10_opensOne_2 0 rfl rfl)
theorem dX10_opensOne_47 : decode cX10_opensOne 47 = .ok (.iconst 1, 1) := dk_4 (dk_at dksX10_opensOne_2 3 rfl rfl)
theorem dX10_opensOne_48 : decode cX10_opensOne 48 = .ok (.iadd, 1) := dk_96 (dk_at dksX10_opensOne_2 4 rfl rfl)
theorem dX10_opensOne_49 : decode cX10_opensOne 49 = .ok (.putfield 193, 3) := dk_181 0 193 (dk_at dksX10_opensOne_2 5 rfl rfl)
theorem dX10_opensOne_52 : decode cX10_opensOne 52 = .ok (.return_, 1) := dk_177 (dk_at dksX10_opensOne_2 8 rfl rfl)
abbrev cX10_emit : ByteArray := prog_19_method_29_code
def yX10_emit : MethodName := ⟨RX10, "emit", "(II)V"⟩
def dkwX10_emit_1 : List UInt8 := [180, 1, 57, 28, 79, 42, 89, 180, 1, 57, 4, 96, 181, 1, 57, 177]
abbrev dktX10_emit_1 : List UInt8 := dkwX10_emit_1 ++ []
def dkwX10_emit_0 : List UInt8 := [42, 182, 0, 182, 154, 0, 4, 177, 42, 180, 0, 72, 42, 180, 1, 57, 27, 79, 42, 180, 0, 75, 42]
abbrev dktX10_emit_0 : List UInt8 := dkwX10_emit_0 ++ dktX10_emit_1
theorem dksX10_emit_0 : cX10_emit.data.toList.drop 0 = dktX10_emit_0 := by decide +kernel
theorem dksX10_emit_1 : cX10_emit.data.toList.drop 23 = dktX10_emit_1 := dk_seg dksX10_emit_0 23 rfl rfl
theorem dX10_emit_0 : decode cX10_emit 0 = .ok (.aload_n 0, 1) := dk_42 (dk_at dksX10_emit_0 0 rfl rfl)
theorem dX10_emit_1 : decode cX10_emit 1 = .ok (.invokevirtual 182, 3) := dk_182 0 182 (dk_at dksX10_emit_0 1 rfl rfl)
theorem dX10_emit_4 : decode cX10_emit 4 = .ok (.ifCond .ne 4, 3) := dk_154 0 4 (dk_at dksX10_emit_0 4 rfl rfl)
theorem dX10_emit_7 : decode cX10_emit 7 = .ok (.return_, 1) := dk_177 (dk_at dksX10_emit_0 7 rfl rfl)
theorem dX10_emit_8 : decode cX10_emit 8 = .ok (.aload_n 0, 1) := dk_42 (dk_at dksX10_emit_0 8 rfl rfl)
theorem dX10_emit_9 : decode cX10_emit 9 = .ok (.getfield 72, 3) := dk_180 0 72 (dk_at dksX10_emit_0 9 rfl rfl)
theorem dX10_emit_12 : decode cX10_emit 12 = .ok (.aload_n 0, 1) := dk_42 (dk_at dksX10_emit_0 12 rfl rfl)
theorem dX10_emit_13 : decode cX10_emit 13 = .ok (.getfield 313, 3) := dk_180 1 57 (dk_at dksX10_emit_0 13 rfl rfl)
theorem dX10_emit_16 : decode cX10_emit 16 = .ok (.iload_n 1, 1) := dk_27 (dk_at dksX10_emit_0 16 rfl rfl)
theorem dX10_emit_17 : decode cX10_emit 17 = .ok (.iastore, 1) := dk_79 (dk_at dksX10_emit_0 17 rfl rfl)
theorem dX10_emit_18 : decode cX10_emit 18 = .ok (.aload_n 0, 1) := dk_42 (dk_at dksX10_emit_0 18 rfl rfl)
theorem dX10_emit_19 : decode cX10_emit 19 = .ok (.getfield 75, 3) := dk_180 0 75 (dk_at dksX10_emit_0 19 rfl rfl)
theorem dX10_emit_22 : decode cX10_emit 22 = .ok (.aload_n 0, 1) := dk_42 (dk_at dksX10_emit_0 22 rfl rfl)
theorem dX10_emit_23 : decode cX10_emit 23 = .ok (.getfield 313, 3) := dk_180 1 57 (dk_at dksX10_emit_1 0 rfl rfl)
theorem dX10_emit_26 : decode cX10_emit 26 = .ok (.iload_n 2, 1) := dk_28 (dk_at dksX10_emit_1 3 rfl rfl)
theorem dX10_emit_27 : decode cX10_emit 27 = .ok (.iastore, 1) := dk_79 (dk_at dksX10_emit_1 4 rfl rfl)
theorem dX10_emit_28 : decode cX10_emit 28 = .ok (.aload_n 0, 1) := dk_42 (dk_at dksX10_emit_1 5 rfl rfl)
theorem dX10_emit_29 : decode cX10_emit 29 = .ok (.dup, 1) := dk_89 (dk_at dksX10_emit_1 6 rfl rfl)
theorem dX10_emit_30 : decode cX10_emit 30 = .ok (.getfield 313, 3) := dk_180 1 57 (dk_at dksX10_emit_1 7 rfl rfl)
theorem dX10_emit_33 : decode cX10_emit 33 = .ok (.iconst 1, 1) := dk_4 (dk_at dksX10_emit_1 10 rfl rfl)
theorem dX10_emit_34 : decode cX10_emit 34 = .ok (.iadd, 1) := dk_96 (dk_at dksX10_emit_1 11 rfl rfl)
theorem dX10_emit_35 : decode cX10_emit 35 = .ok (.putfield 313, 3) := dk_181 1 57 (dk_at dksX10_emit_1 12 rfl rfl)
theorem dX10_emit_38 : decode cX10_emit 38 = .ok (.return_, 1) := dk_177 (dk_at dksX10_emit_1 15 rfl rfl)
abbrev cX10_readTwo : ByteArray := prog_19_method_33_code
def yX10_readTwo : MethodName := ⟨RX10, "readTwo", "(II)V"⟩
def dkwX10_readTwo_2 : List UInt8 := [182, 1, 63, 177]
abbrev dktX10_readTwo_2 : List UInt8 := dkwX10_readTwo_2 ++ []
def dkwX10_readTwo_1 : List UInt8 := [182, 1, 72, 42, 16, 93, 182, 1, 50, 42, 89, 180, 0, 193, 4, 100, 181, 0, 193, 42, 28, 3]
abbrev dktX10_readTwo_1 : List UInt8 := dkwX10_readTwo_1 ++ dktX10_readTwo_2
def dkwX10_readTwo_0 : List UInt8 := [42, 27, 182, 1, 69, 42, 16, 91, 182, 1, 50, 42, 182, 1, 72, 42, 16, 44, 182, 1, 50, 42]
abbrev dktX10_readTwo_0 : List UInt8 := dkwX10_readTwo_0 ++ dktX10_readTwo_1
theorem dksX10_readTwo_0 : cX10_readTwo.data.toList.drop 0 = dktX10_readTwo_0 := by decide +kernel
theorem dksX10_readTwo_1 : cX10_readTwo.data.toList.drop 22 = dktX10_readTwo_1 := dk_seg dksX10_readTwo_0 22 rfl rfl
theorem dksX10_readTwo_2 : cX10_readTwo.data.toList.drop 44 = dktX10_readTwo_2 := dk_seg dksX10_readTwo_1 22 rfl rfl
theorem dX10_readTwo_0 : decode cX10_readTwo 0 = .ok (.aload_n 0, 1) := dk_42 (dk_at dksX10_readTwo_0 0 rfl rfl)
theorem dX10_readTwo_1 : decode cX10_readTwo 1 = .ok (.iload_n 1, 1) := dk_27 (dk_at dksX10_readTwo_0 1 rfl rfl)
theorem dX10_readTwo_2 : decode cX10_readTwo 2 = .ok (.invokevirtual 325, 3) := dk_182 1 69 (dk_at dksX10_readTwo_0 2 rfl rfl)
theorem dX10_readTwo_5 : decode cX10_readTwo 5 = .ok (.aload_n 0, 1) := dk_42 (dk_at dksX10_readTwo_0 5 rfl rfl)
theorem dX10_readTwo_6 : decode cX10_readTwo 6 = .ok (.bipush 91, 2) := dk_16 91 (dk_at dksX10_readTwo_0 6 rfl rfl)
theorem dX10_readTwo_8 : decode cX10_readTwo 8 = .ok (.invokevirtual 306, 3) := dk_182 1 50 (dk_at dksX10_readTwo_0 8 rfl rfl)
theorem dX10_readTwo_11 : decode cX10_readTwo 11 = .ok (.aload_n 0, 1) := dk_42 (dk_at dksX10_readTwo_0 11 rfl rfl)
theorem dX10_readTwo_12 : decode cX10_readTwo 12 = .ok (.invokevirtual 328, 3) := dk_182 1 72 (dk_at dksX10_readTwo_0 12 rfl rfl)
theorem dX10_readTwo_15 : decode cX10_readTwo 15 = .ok (.aload_n 0, 1) := dk_42 (dk_at dksX10_readTwo_0 15 rfl rfl)
theorem dX10_readTwo_16 : decode cX10_readTwo 16 = .ok (.bipush 44, 2) := dk_16 44 (dk_at dksX10_readTwo_0 16 rfl rfl)
theorem dX10_readTwo_18 : decode cX10_readTwo 18 = .ok (.invokevirtual 306, 3) := dk_182 1 50 (dk_at dksX10_readTwo_0 18 rfl rfl)
theorem dX10_readTwo_21 : decode cX10_readTwo 21 = .ok (.aload_n 0, 1) := dk_42 (dk_at dksX10_readTwo_0 21 rfl rfl)
theorem dX10_readTwo_22 : decode cX10_readTwo 22 = .ok (.invokevirtual 328, 3) := dk_182 1 72 (dk_at dksX10_readTwo_1 0 rfl rfl)
theorem dX10_readTwo_25 : decode cX10_readTwo 25 = .ok (.aload_n 0, 1) := dk_42 (dk_at dksX10_readTwo_1 3 rfl rfl)
theorem dX10_readTwo_26 : decode cX10_readTwo 26 = .ok (.bipush 93, 2) := dk_16 93 (dk_at dksX10_readTwo_1 4 rfl rfl)
theorem dX10_readTwo_28 : decode cX10_readTwo 28 = .ok (.invokevirtual 306, 3) := dk_182 1 50 (dk_at dksX10_readTwo_1 6 rfl rfl)
theorem dX10_readTwo_31 : decode cX10_readTwo 31 = .ok (.aload_n 0, 1) := dk_42 (dk_at dksX10_readTwo_1 9 rfl rfl)
theorem dX10_readTwo_32 : decode cX10_readTwo 32 = .ok (.dup, 1) := dk_89 (dk_at dksX10_readTwo_1 10 rfl rfl)
theorem dX10_readTwo_33 : decode cX10_readTwo 33 = .ok (.getfield 193, 3) := dk_180 0 193 (dk_at dksX10_readTwo_1 11 rfl rfl)
theorem dX10_readTwo_36 : decode cX10_readTwo 36 = .ok (.iconst 1, 1) := dk_4 (dk_at dksX10_readTwo_1 14 rfl rfl)
theorem dX10_readTwo_37 : decode cX10_readTwo 37 = .ok (.isub, 1) := dk_100 (dk_at dksX10_readTwo_1 15 rfl rfl)
theorem dX10_readTwo_38 : decode cX10_readTwo 38 = .ok (.putfield 193, 3) := dk_181 0 193 (dk_at dksX10_readTwo_1 16 rfl rfl)
theorem dX10_readTwo_41 : decode cX10_readTwo 41 = .ok (.aload_n 0, 1) := dk_42 (dk_at dksX10_readTwo_1 19 rfl rfl)
theorem dX10_readTwo_42 : decode cX10_readTwo 42 = .ok (.iload_n 2, 1) := dk_28 (dk_at dksX10_readTwo_1 20 rfl rfl)
theorem dX10_readTwo_43 : decode cX10_readTwo 43 = .ok (.iconst 0, 1) := dk_3 (dk_at dksX10_readTwo_1 21 rfl rfl)
theorem dX10_readTwo_44 : decode cX10_readTwo 44 = .ok (.invokevirtual 319, 3) := dk_182 1 63 (dk_at dksX10_readTwo_2 0 rfl rfl)
theorem dX10_readTwo_47 : decode cX10_readTwo 47 = .ok (.return_, 1) := dk_177 (dk_at dksX10_readTwo_2 3 rfl rfl)
abbrev cX10_factHere : ByteArray := prog_19_method_35_code
def yX10_factHere : MethodName := ⟨RX10, "factHere", "()I"⟩
def dkwX10_factHere_3 : List UInt8 := [167, 0, 18, 27, 19, 1, 86, 184, 0, 250, 160, 0, 7, 8, 167, 0, 4, 2, 172]
abbrev dktX10_factHere_3 : List UInt8 := dkwX10_factHere_3 ++ []
def dkwX10_factHere_2 : List UInt8 := [19, 1, 7, 184, 0, 250, 160, 0, 7, 6, 167, 0, 32, 27, 19, 1, 84, 184, 0, 250, 160, 0, 7, 7]
abbrev dktX10_factHere_2 : List UInt8 := dkwX10_factHere_2 ++ dktX10_factHere_3
def dkwX10_factHere_1 : List UInt8 := [160, 0, 7, 4, 167, 0, 60, 27, 19, 1, 83, 184, 0, 250, 160, 0, 7, 5, 167, 0, 46, 27]
abbrev dktX10_factHere_1 : List UInt8 := dkwX10_factHere_1 ++ dktX10_factHere_2
def dkwX10_factHere_0 : List UInt8 := [42, 19, 1, 75, 182, 1, 77, 153, 0, 5, 3, 172, 42, 182, 1, 29, 60, 27, 19, 1, 81, 184, 0, 250]
abbrev dktX10_factHere_0 : List UInt8 := dkwX10_factHere_0 ++ dktX10_factHere_1
theorem dksX10_factHere_0 : cX10_factHere.data.toList.drop 0 = dktX10_factHere_0 := by decide +kernel
theorem dksX10_factHere_1 : cX10_factHere.data.toList.drop 24 = dktX10_factHere_1 := dk_seg dksX10_factHere_0 24 rfl rfl
theorem dksX10_factHere_2 : cX10_factHere.data.toList.drop 46 = dktX10_factHere_2 := dk_seg dksX10_factHere_1 22 rfl rfl
theorem dksX10_factHere_3 : cX10_factHere.data.toList.drop 70 = dktX10_factHere_3 := dk_seg dksX10_factHere_2 24 rfl rfl
theorem dX10_factHere_0 : decode cX10_factHere 0 = .ok (.aload_n 0, 1) := dk_42 (dk_at dksX10_factHere_0 0 rfl rfl)
theorem dX10_factHere_1 : decode cX10_factHere 1 = .ok (.ldc_w 331, 3) := dk_19 1 75 (dk_at dksX10_factHere_0 1 rfl rfl)
theorem dX10_factHere_4 : decode cX10_factHere 4 = .ok (.invokevirtual 333, 3) := dk_182 1 77 (dk_at dksX10_factHere_0 4 rfl rfl)
theorem dX10_factHere_7 : decode cX10_factHere 7 = .ok (.ifCond .eq 5, 3) := dk_153 0 5 (dk_at dksX10_factHere_0 7 rfl rfl)
theorem dX10_factHere_10 : decode cX10_factHere 10 = .ok (.iconst 0, 1) := dk_3 (dk_at dksX10_factHere_0 10 rfl rfl)
theorem dX10_factHere_11 : decode cX10_factHere 11 = .ok (.ireturn, 1) := dk_172 (dk_at dksX10_factHere_0 11 rfl rfl)
theorem dX10_factHere_12 : decode cX10_factHere 12 = .ok (.aload_n 0, 1) := dk_42 (dk_at dksX10_factHere_0 12 rfl rfl)
theorem dX10_factHere_13 : decode cX10_factHere 13 = .ok (.invokevirtual 285, 3) := dk_182 1 29 (dk_at dksX10_factHere_0 13 rfl rfl)
theorem dX10_factHere_16 : decode cX10_factHere 16 = .ok (.istore_n 1, 1) := dk_60 (dk_at dksX10_factHere_0 16 rfl rfl)
theorem dX10_factHere_17 : decode cX10_factHere 17 = .ok (.iload_n 1, 1) := dk_27 (dk_at dksX10_factHere_0 17 rfl rfl)
theorem dX10_factHere_18 : decode cX10_factHere 18 = .ok (.ldc_w 337, 3) := dk_19 1 81 (dk_at dksX10_factHere_0 18 rfl rfl)
theorem dX10_factHere_21 : decode cX10_factHere 21 = .ok (.invokestatic 250, 3) := dk_184 0 250 (dk_at dksX10_factHere_0 21 rfl rfl)
theorem dX10_factHere_24 : decode cX10_factHere 24 = .ok (.if_icmp .ne 7, 3) := dk_160 0 7 (dk_at dksX10_factHere_1 0 rfl rfl)
theorem dX10_factHere_27 : decode cX10_factHere 27 = .ok (.iconst 1, 1) := dk_4 (dk_at dksX10_factHere_1 3 rfl rfl)
theorem dX10_factHere_28 : decode cX10_factHere 28 = .ok (.goto 60, 3) := dk_167 0 60 (dk_at dksX10_factHere_1 4 rfl rfl)
theorem dX10_factHere_31 : decode cX10_factHere 31 = .ok (.iload_n 1, 1) := dk_27 (dk_at dksX10_factHere_1 7 rfl rfl)
theorem dX10_factHere_32 : decode cX10_factHere 32 = .ok (.ldc_w 339, 3) := dk_19 1 83 (dk_at dksX10_factHere_1 8 rfl rfl)
theorem dX10_factHere_35 : decode cX10_factHere 35 = .ok (.invokestatic 250, 3) := dk_184 0 250 (dk_at dksX10_factHere_1 11 rfl rfl)
theorem dX10_factHere_38 : decode cX10_factHere 38 = .ok (.if_icmp .ne 7, 3) := dk_160 0 7 (dk_at dksX10_factHere_1 14 rfl rfl)
theorem dX10_factHere_41 : decode cX10_factHere 41 = .ok (.iconst 2, 1) := dk_5 (dk_at dksX10_factHere_1 17 rfl rfl)
theorem dX10_factHere_42 : decode cX10_factHere 42 = .ok (.goto 46, 3) := dk_167 0 46 (dk_at dksX10_factHere_1 18 rfl rfl)
theorem dX10_factHere_45 : decode cX10_factHere 45 = .ok (.iload_n 1, 1) := dk_27 (dk_at dksX10_factHere_1 21 rfl rfl)
theorem dX10_factHere_46 : decode cX10_factHere 46 = .ok (.ldc_w 263, 3) := dk_19 1 7 (dk_at dksX10_factHere_2 0 rfl rfl)
theorem dX10_factHere_49 : decode cX10_factHere 49 = .ok (.invokestatic 250, 3) := dk_184 0 250 (dk_at dksX10_factHere_2 3 rfl rfl)
theorem dX10_factHere_52 : decode cX10_factHere 52 = .ok (.if_icmp .ne 7, 3) := dk_160 0 7 (dk_at dksX10_factHere_2 6 rfl rfl)
theorem dX10_factHere_55 : decode cX10_factHere 55 = .ok (.iconst 3, 1) := dk_6 (dk_at dksX10_factHere_2 9 rfl rfl)
theorem dX10_factHere_56 : decode cX10_factHere 56 = .ok (.goto 32, 3) := dk_167 0 32 (dk_at dksX10_factHere_2 10 rfl rfl)
theorem dX10_factHere_59 : decode cX10_factHere 59 = .ok (.iload_n 1, 1) := dk_27 (dk_at dksX10_factHere_2 13 rfl rfl)
theorem dX10_factHere_60 : decode cX10_factHere 60 = .ok (.ldc_w 340, 3) := dk_19 1 84 (dk_at dksX10_factHere_2 14 rfl rfl)
theorem dX10_factHere_63 : decode cX10_factHere 63 = .ok (.invokestatic 250, 3) := dk_184 0 250 (dk_at dksX10_factHere_2 17 rfl rfl)
theorem dX10_factHere_66 : decode cX10_factHere 66 = .ok (.if_icmp .ne 7, 3) := dk_160 0 7 (dk_at dksX10_factHere_2 20 rfl rfl)
theorem dX10_factHere_69 : decode cX10_factHere 69 = .ok (.iconst 4, 1) := dk_7 (dk_at dksX10_factHere_2 23 rfl rfl)
theorem dX10_factHere_70 : decode cX10_factHere 70 = .ok (.goto 18, 3) := dk_167 0 18 (dk_at dksX10_factHere_3 0 rfl rfl)
theorem dX10_factHere_73 : decode cX10_factHere 73 = .ok (.iload_n 1, 1) := dk_27 (dk_at dksX10_factHere_3 3 rfl rfl)
theorem dX10_factHere_74 : decode cX10_factHere 74 = .ok (.ldc_w 342, 3) := dk_19 1 86 (dk_at dksX10_factHere_3 4 rfl rfl)
theorem dX10_factHere_77 : decode cX10_factHere 77 = .ok (.invokestatic 250, 3) := dk_184 0 250 (dk_at dksX10_factHere_3 7 rfl rfl)
theorem dX10_factHere_80 : decode cX10_factHere 80 = .ok (.if_icmp .ne 7, 3) := dk_160 0 7 (dk_at dksX10_factHere_3 10 rfl rfl)
theorem dX10_factHere_83 : decode cX10_factHere 83 = .ok (.iconst 5, 1) := dk_8 (dk_at dksX10_factHere_3 13 rfl rfl)
theorem dX10_factHere_84 : decode cX10_factHere 84 = .ok (.goto 4, 3) := dk_167 0 4 (dk_at dksX10_factHere_3 14 rfl rfl)
theorem dX10_factHere_87 : decode cX10_factHere 87 = .ok (.iconst (-1), 1) := dk_2 (dk_at dksX10_factHere_3 17 rfl rfl)
theorem dX10_factHere_88 : decode cX10_factHere 88 = .ok (.ireturn, 1) := dk_172 (dk_at dksX10_factHere_3 18 rfl rfl)
abbrev cX10_standsHere : ByteArray := prog_19_method_34_code
def yX10_standsHere : MethodName := ⟨RX10, "standsHere", "(Ljava/lang/String;)Z"⟩
def dkwX10_standsHere_4 : List UInt8 := [167, 0, 4, 3, 172]
abbrev dktX10_standsHere_4 : List UInt8 := dkwX10_standsHere_4 ++ []
def dkwX10_standsHere_3 : List UInt8 := [162, 0, 23, 42, 180, 0, 20, 42, 180, 0, 159, 43, 182, 0, 173, 96, 46, 184, 0, 169, 154, 0, 7, 4]
abbrev dktX10_standsHere_3 : List UInt8 := dkwX10_standsHere_3 ++ dktX10_standsHere_4
def dkwX10_standsHere_2 : List UInt8 := [159, 0, 5, 3, 172, 132, 2, 1, 167, 255, 211, 42, 180, 0, 159, 43, 182, 0, 173, 96, 42, 180, 0, 162]
abbrev dktX10_standsHere_2 : List UInt8 := dkwX10_standsHere_2 ++ dktX10_standsHere_3
def dkwX10_standsHere_1 : List UInt8 := [180, 0, 162, 162, 0, 22, 42, 180, 0, 20, 42, 180, 0, 159, 28, 96, 46, 43, 28, 182, 0, 178]
abbrev dktX10_standsHere_1 : List UInt8 := dkwX10_standsHere_1 ++ dktX10_standsHere_2
def dkwX10_standsHere_0 : List UInt8 := [42, 182, 0, 165, 87, 3, 61, 28, 43, 182, 0, 173, 162, 0, 43, 42, 180, 0, 159, 28, 96, 42]
abbrev dktX10_standsHere_0 : List UInt8 := dkwX10_standsHere_0 ++ dktX10_standsHere_1
theorem dksX10_standsHere_0 : cX10_standsHere.data.toList.drop 0 = dktX10_standsHere_0 := by decide +kernel
theorem dksX10_standsHere_1 : cX10_standsHere.data.toList.drop 22 = dktX10_standsHere_1 := dk_seg dksX10_standsHere_0 22 rfl rfl
theorem dksX10_standsHere_2 : cX10_standsHere.data.toList.drop 44 = dktX10_standsHere_2 := dk_seg dksX10_standsHere_1 22 rfl rfl
theorem dksX10_standsHere_3 : cX10_standsHere.data.toList.drop 68 = dktX10_standsHere_3 := dk_seg dksX10_standsHere_2 24 rfl rfl
theorem dksX10_standsHere_4 : cX10_standsHere.data.toList.drop 92 = dktX10_standsHere_4 := dk_seg dksX10_standsHere_3 24 rfl rfl
theorem dX10_standsHere_0 : decode cX10_standsHere 0 = .ok (.aload_n 0, 1) := dk_42 (dk_at dksX10_standsHere_0 0 rfl rfl)
theorem dX10_standsHere_1 : decode cX10_standsHere 1 = .ok (.invokevirtual 165, 3) := dk_182 0 165 (dk_at dksX10_standsHere_0 1 rfl rfl)
theorem dX10_standsHere_4 : decode cX10_standsHere 4 = .ok (.pop, 1) := dk_87 (dk_at dksX10_standsHere_0 4 rfl rfl)
theorem dX10_standsHere_5 : decode cX10_standsHere 5 = .ok (.iconst 0, 1) := dk_3 (dk_at dksX10_standsHere_0 5 rfl rfl)
theorem dX10_standsHere_6 : decode cX10_standsHere 6 = .ok (.istore_n 2, 1) := dk_61 (dk_at dksX10_standsHere_0 6 rfl rfl)
theorem dX10_standsHere_7 : decode cX10_standsHere 7 = .ok (.iload_n 2, 1) := dk_28 (dk_at dksX10_standsHere_0 7 rfl rfl)
theorem dX10_standsHere_8 : decode cX10_standsHere 8 = .ok (.aload_n 1, 1) := dk_43 (dk_at dksX10_standsHere_0 8 rfl rfl)
theorem dX10_standsHere_9 : decode cX10_standsHere 9 = .ok (.invokevirtual 173, 3) := dk_182 0 173 (dk_at dksX10_standsHere_0 9 rfl rfl)
theorem dX10_standsHere_12 : decode cX10_standsHere 12 = .ok (.if_icmp .ge 43, 3) := dk_162 0 43 (dk_at dksX10_standsHere_0 12 rfl rfl)
theorem dX10_standsHere_15 : decode cX10_standsHere 15 = .ok (.aload_n 0, 1) := dk_42 (dk_at dksX10_standsHere_0 15 rfl rfl)
theorem dX10_standsHere_16 : decode cX10_standsHere 16 = .ok (.getfield 159, 3) := dk_180 0 159 (dk_at dksX10_standsHere_0 16 rfl rfl)
theorem dX10_standsHere_19 : decode cX10_standsHere 19 = .ok (.iload_n 2, 1) := dk_28 (dk_at dksX10_standsHere_0 19 rfl rfl)
theorem dX10_standsHere_20 : decode cX10_standsHere 20 = .ok (.iadd, 1) := dk_96 (dk_at dksX10_standsHere_0 20 rfl rfl)
theorem dX10_standsHere_21 : decode cX10_standsHere 21 = .ok (.aload_n 0, 1) := dk_42 (dk_at dksX10_standsHere_0 21 rfl rfl)
theorem dX10_standsHere_22 : decode cX10_standsHere 22 = .ok (.getfield 162, 3) := dk_180 0 162 (dk_at dksX10_standsHere_1 0 rfl rfl)
theorem dX10_standsHere_25 : decode cX10_standsHere 25 = .ok (.if_icmp .ge 22, 3) := dk_162 0 22 (dk_at dksX10_standsHere_1 3 rfl rfl)
theorem dX10_standsHere_28 : decode cX10_standsHere 28 = .ok (.aload_n 0, 1) := dk_42 (dk_at dksX10_standsHere_1 6 rfl rfl)
theorem dX10_standsHere_29 : decode cX10_standsHere 29 = .ok (.getfield 20, 3) := dk_180 0 20 (dk_at dksX10_standsHere_1 7 rfl rfl)
theorem dX10_standsHere_32 : decode cX10_standsHere 32 = .ok (.aload_n 0, 1) := dk_42 (dk_at dksX10_standsHere_1 10 rfl rfl)
theorem dX10_standsHere_33 : decode cX10_standsHere 33 = .ok (.getfield 159, 3) := dk_180 0 159 (dk_at dksX10_standsHere_1 11 rfl rfl)
theorem dX10_standsHere_36 : decode cX10_standsHere 36 = .ok (.iload_n 2, 1) := dk_28 (dk_at dksX10_standsHere_1 14 rfl rfl)
theorem dX10_standsHere_37 : decode cX10_standsHere 37 = .ok (.iadd, 1) := dk_96 (dk_at dksX10_standsHere_1 15 rfl rfl)
theorem dX10_standsHere_38 : decode cX10_standsHere 38 = .ok (.iaload, 1) := dk_46 (dk_at dksX10_standsHere_1 16 rfl rfl)
theorem dX10_standsHere_39 : decode cX10_standsHere 39 = .ok (.aload_n 1, 1) := dk_43 (dk_at dksX10_standsHere_1 17 rfl rfl)
theorem dX10_standsHere_40 : decode cX10_standsHere 40 = .ok (.iload_n 2, 1) := dk_28 (dk_at dksX10_standsHere_1 18 rfl rfl)
theorem dX10_standsHere_41 : decode cX10_standsHere 41 = .ok (.invokevirtual 178, 3) := dk_182 0 178 (dk_at dksX10_standsHere_1 19 rfl rfl)
theorem dX10_standsHere_44 : decode cX10_standsHere 44 = .ok (.if_icmp .eq 5, 3) := dk_159 0 5 (dk_at dksX10_standsHere_2 0 rfl rfl)
theorem dX10_standsHere_47 : decode cX10_standsHere 47 = .ok (.iconst 0, 1) := dk_3 (dk_at dksX10_standsHere_2 3 rfl rfl)
theorem dX10_standsHere_48 : decode cX10_standsHere 48 = .ok (.ireturn, 1) := dk_172 (dk_at dksX10_standsHere_2 4 rfl rfl)
theorem dX10_standsHere_49 : decode cX10_standsHere 49 = .ok (.iinc 2 1, 3) := dk_132 2 1 (dk_at dksX10_standsHere_2 5 rfl rfl)
theorem dX10_standsHere_52 : decode cX10_standsHere 52 = .ok (.goto (-45), 3) := dk_167 255 211 (dk_at dksX10_standsHere_2 8 rfl rfl)
theorem dX10_standsHere_55 : decode cX10_standsHere 55 = .ok (.aload_n 0, 1) := dk_42 (dk_at dksX10_standsHere_2 11 rfl rfl)
theorem dX10_standsHere_56 : decode cX10_standsHere 56 = .ok (.getfield 159, 3) := dk_180 0 159 (dk_at dksX10_standsHere_2 12 rfl rfl)
theorem dX10_standsHere_59 : decode cX10_standsHere 59 = .ok (.aload_n 1, 1) := dk_43 (dk_at dksX10_standsHere_2 15 rfl rfl)
theorem dX10_standsHere_60 : decode cX10_standsHere 60 = .ok (.invokevirtual 173, 3) := dk_182 0 173 (dk_at dksX10_standsHere_2 16 rfl rfl)
theorem dX10_standsHere_63 : decode cX10_standsHere 63 = .ok (.iadd, 1) := dk_96 (dk_at dksX10_standsHere_2 19 rfl rfl)
theorem dX10_standsHere_64 : decode cX10_standsHere 64 = .ok (.aload_n 0, 1) := dk_42 (dk_at dksX10_standsHere_2 20 rfl rfl)
theorem dX10_standsHere_65 : decode cX10_standsHere 65 = .ok (.getfield 162, 3) := dk_180 0 162 (dk_at dksX10_standsHere_2 21 rfl rfl)
theorem dX10_standsHere_68 : decode cX10_standsHere 68 = .ok (.if_icmp .ge 23, 3) := dk_162 0 23 (dk_at dksX10_standsHere_3 0 rfl rfl)
theorem dX10_standsHere_71 : decode cX10_standsHere 71 = .ok (.aload_n 0, 1) := dk_42 (dk_at dksX10_standsHere_3 3 rfl rfl)
theorem dX10_standsHere_72 : decode cX10_standsHere 72 = .ok (.getfield 20, 3) := dk_180 0 20 (dk_at dksX10_standsHere_3 4 rfl rfl)
theorem dX10_standsHere_75 : decode cX10_standsHere 75 = .ok (.aload_n 0, 1) := dk_42 (dk_at dksX10_standsHere_3 7 rfl rfl)
theorem dX10_standsHere_76 : decode cX10_standsHere 76 = .ok (.getfield 159, 3) := dk_180 0 159 (dk_at dksX10_standsHere_3 8 rfl rfl)
theorem dX10_standsHere_79 : decode cX10_standsHere 79 = .ok (.aload_n 1, 1) := dk_43 (dk_at dksX10_standsHere_3 11 rfl rfl)
theorem dX10_standsHere_80 : decode cX10_standsHere 80 = .ok (.invokevirtual 173, 3) := dk_182 0 173 (dk_at dksX10_standsHere_3 12 rfl rfl)
theorem dX10_standsHere_83 : decode cX10_standsHere 83 = .ok (.iadd, 1) := dk_96 (dk_at dksX10_standsHere_3 15 rfl rfl)
theorem dX10_standsHere_84 : decode cX10_standsHere 84 = .ok (.iaload, 1) := dk_46 (dk_at dksX10_standsHere_3 16 rfl rfl)
theorem dX10_standsHere_85 : decode cX10_standsHere 85 = .ok (.invokestatic 169, 3) := dk_184 0 169 (dk_at dksX10_standsHere_3 17 rfl rfl)
theorem dX10_standsHere_88 : decode cX10_standsHere 88 = .ok (.ifCond .ne 7, 3) := dk_154 0 7 (dk_at dksX10_standsHere_3 20 rfl rfl)
theorem dX10_standsHere_91 : decode cX10_standsHere 91 = .ok (.iconst 1, 1) := dk_4 (dk_at dksX10_standsHere_3 23 rfl rfl)
theorem dX10_standsHere_92 : decode cX10_standsHere 92 = .ok (.goto 4, 3) := dk_167 0 4 (dk_at dksX10_standsHere_4 0 rfl rfl)
theorem dX10_standsHere_95 : decode cX10_standsHere 95 = .ok (.iconst 0, 1) := dk_3 (dk_at dksX10_standsHere_4 3 rfl rfl)
theorem dX10_standsHere_96 : decode cX10_standsHere 96 = .ok (.ireturn, 1) := dk_172 (dk_at dksX10_standsHere_4 4 rfl rfl)
abbrev cX10_plan : ByteArray := prog_19_method_41_code
def yX10_plan : MethodName := ⟨RX10, "plan", "(I)I"⟩
def dkwX10_plan_8 : List UInt8 := [180, 0, 90, 42, 180, 0, 93, 5, 28, 104, 182, 0, 229, 42, 3, 181, 0, 242, 21, 4, 172]
abbrev dktX10_plan_8 : List UInt8 := dkwX10_plan_8 ++ []
def dkwX10_plan_7 : List UInt8 := [182, 1, 53, 54, 4, 42, 180, 0, 153, 2, 159, 0, 6, 21, 4, 172, 42, 28, 181, 0, 236, 42, 42]
abbrev dktX10_plan_7 : List UInt8 := dkwX10_plan_7 ++ dktX10_plan_8
def dkwX10_plan_6 : List UInt8 := [21, 5, 79, 42, 180, 0, 90, 5, 28, 104, 4, 96, 21, 6, 79, 132, 2, 1, 167, 255, 145, 42, 28]
abbrev dktX10_plan_6 : List UInt8 := dkwX10_plan_6 ++ dktX10_plan_7
def dkwX10_plan_5 : List UInt8 := [42, 182, 0, 182, 154, 0, 6, 167, 0, 38, 29, 4, 21, 5, 120, 128, 62, 42, 180, 0, 90, 5, 28, 104]
abbrev dktX10_plan_5 : List UInt8 := dkwX10_plan_5 ++ dktX10_plan_6
def dkwX10_plan_4 : List UInt8 := [126, 4, 160, 0, 10, 42, 5, 21, 4, 182, 0, 189, 42, 182, 1, 105, 54, 6, 42, 16, 59, 182, 1, 50]
abbrev dktX10_plan_4 : List UInt8 := dkwX10_plan_4 ++ dktX10_plan_5
def dkwX10_plan_3 : List UInt8 := [3, 42, 180, 0, 217, 4, 100, 182, 0, 254, 54, 5, 42, 182, 0, 182, 153, 0, 20, 29, 21, 5, 122, 4]
abbrev dktX10_plan_3 : List UInt8 := dkwX10_plan_3 ++ dktX10_plan_4
def dkwX10_plan_2 : List UInt8 := [61, 3, 62, 42, 182, 0, 182, 153, 0, 110, 42, 182, 1, 26, 153, 0, 103, 42, 180, 0, 159, 54, 4, 42]
abbrev dktX10_plan_2 : List UInt8 := dkwX10_plan_2 ++ dktX10_plan_3
def dkwX10_plan_1 : List UInt8 := [163, 0, 7, 4, 167, 0, 4, 3, 4, 4, 182, 1, 19, 154, 0, 5, 3, 172, 42, 27, 182, 1, 23, 3]
abbrev dktX10_plan_1 : List UInt8 := dkwX10_plan_1 ++ dktX10_plan_2
def dkwX10_plan_0 : List UInt8 := [42, 3, 181, 0, 3, 42, 27, 155, 0, 22, 27, 42, 180, 0, 150, 163, 0, 14, 27, 17, 0, 150]
abbrev dktX10_plan_0 : List UInt8 := dkwX10_plan_0 ++ dktX10_plan_1
theorem dksX10_plan_0 : cX10_plan.data.toList.drop 0 = dktX10_plan_0 := by decide +kernel
theorem dksX10_plan_1 : cX10_plan.data.toList.drop 22 = dktX10_plan_1 := dk_seg dksX10_plan_0 22 rfl rfl
theorem dksX10_plan_2 : cX10_plan.data.toList.drop 46 = dktX10_plan_2 := dk_seg dksX10_plan_1 24 rfl rfl
theorem dksX10_plan_3 : cX10_plan.data.toList.drop 70 = dktX10_plan_3 := dk_seg dksX10_plan_2 24 rfl rfl
theorem dksX10_plan_4 : cX10_plan.data.toList.drop 94 = dktX10_plan_4 := dk_seg dksX10_plan_3 24 rfl rfl
theorem dksX10_plan_5 : cX10_plan.data.toList.drop 118 = dktX10_plan_5 := dk_seg dksX10_plan_4 24 rfl rfl
theorem dksX10_plan_6 : cX10_plan.data.toList.drop 142 = dktX10_plan_6 := dk_seg dksX10_plan_5 24 rfl rfl
theorem dksX10_plan_7 : cX10_plan.data.toList.drop 165 = dktX10_plan_7 := dk_seg dksX10_plan_6 23 rfl rfl
theorem dksX10_plan_8 : cX10_plan.data.toList.drop 188 = dktX10_plan_8 := dk_seg dksX10_plan_7 23 rfl rfl
theorem dX10_plan_0 : decode cX10_plan 0 = .ok (.aload_n 0, 1) := dk_42 (dk_at dksX10_plan_0 0 rfl rfl)
theorem dX10_plan_1 : decode cX10_plan 1 = .ok (.iconst 0, 1) := dk_3 (dk_at dksX10_plan_0 1 rfl rfl)
theorem dX10_plan_2 : decode cX10_plan 2 = .ok (.putfield 3, 3) := dk_181 0 3 (dk_at dksX10_plan_0 2 rfl rfl)
theorem dX10_plan_5 : decode cX10_plan 5 = .ok (.aload_n 0, 1) := dk_42 (dk_at dksX10_plan_0 5 rfl rfl)
theorem dX10_plan_6 : decode cX10_plan 6 = .ok (.iload_n 1, 1) := dk_27 (dk_at dksX10_plan_0 6 rfl rfl)
theorem dX10_plan_7 : decode cX10_plan 7 = .ok (.ifCond .lt 22, 3) := dk_155 0 22 (dk_at dksX10_plan_0 7 rfl rfl)
theorem dX10_plan_10 : decode cX10_plan 10 = .ok (.iload_n 1, 1) := dk_27 (dk_at dksX10_plan_0 10 rfl rfl)
theorem dX10_plan_11 : decode cX10_plan 11 = .ok (.aload_n 0, 1) := dk_42 (dk_at dksX10_plan_0 11 rfl rfl)
theorem dX10_plan_12 : decode cX10_plan 12 = .ok (.getfield 150, 3) := dk_180 0 150 (dk_at dksX10_plan_0 12 rfl rfl)
theorem dX10_plan_15 : decode cX10_plan 15 = .ok (.if_icmp .gt 14, 3) := dk_163 0 14 (dk_at dksX10_plan_0 15 rfl rfl)
theorem dX10_plan_18 : decode cX10_plan 18 = .ok (.iload_n 1, 1) := dk_27 (dk_at dksX10_plan_0 18 rfl rfl)
theorem dX10_plan_19 : decode cX10_plan 19 = .ok (.sipush 150, 3) := dk_17 0 150 (dk_at dksX10_plan_0 19 rfl rfl)
theorem dX10_plan_22 : decode cX10_plan 22 = .ok (.if_icmp .gt 7, 3) := dk_163 0 7 (dk_at dksX10_plan_1 0 rfl rfl)
theorem dX10_plan_25 : decode cX10_plan 25 = .ok (.iconst 1, 1) := dk_4 (dk_at dksX10_plan_1 3 rfl rfl)
theorem dX10_plan_26 : decode cX10_plan 26 = .ok (.goto 4, 3) := dk_167 0 4 (dk_at dksX10_plan_1 4 rfl rfl)
theorem dX10_plan_29 : decode cX10_plan 29 = .ok (.iconst 0, 1) := dk_3 (dk_at dksX10_plan_1 7 rfl rfl)
theorem dX10_plan_30 : decode cX10_plan 30 = .ok (.iconst 1, 1) := dk_4 (dk_at dksX10_plan_1 8 rfl rfl)
theorem dX10_plan_31 : decode cX10_plan 31 = .ok (.iconst 1, 1) := dk_4 (dk_at dksX10_plan_1 9 rfl rfl)
theorem dX10_plan_32 : decode cX10_plan 32 = .ok (.invokevirtual 275, 3) := dk_182 1 19 (dk_at dksX10_plan_1 10 rfl rfl)
theorem dX10_plan_35 : decode cX10_plan 35 = .ok (.ifCond .ne 5, 3) := dk_154 0 5 (dk_at dksX10_plan_1 13 rfl rfl)
theorem dX10_plan_38 : decode cX10_plan 38 = .ok (.iconst 0, 1) := dk_3 (dk_at dksX10_plan_1 16 rfl rfl)
theorem dX10_plan_39 : decode cX10_plan 39 = .ok (.ireturn, 1) := dk_172 (dk_at dksX10_plan_1 17 rfl rfl)
theorem dX10_plan_40 : decode cX10_plan 40 = .ok (.aload_n 0, 1) := dk_42 (dk_at dksX10_plan_1 18 rfl rfl)
theorem dX10_plan_41 : decode cX10_plan 41 = .ok (.iload_n 1, 1) := dk_27 (dk_at dksX10_plan_1 19 rfl rfl)
theorem dX10_plan_42 : decode cX10_plan 42 = .ok (.invokevirtual 279, 3) := dk_182 1 23 (dk_at dksX10_plan_1 20 rfl rfl)
theorem dX10_plan_45 : decode cX10_plan 45 = .ok (.iconst 0, 1) := dk_3 (dk_at dksX10_plan_1 23 rfl rfl)
theorem dX10_plan_46 : decode cX10_plan 46 = .ok (.istore_n 2, 1) := dk_61 (dk_at dksX10_plan_2 0 rfl rfl)
theorem dX10_plan_47 : decode cX10_plan 47 = .ok (.iconst 0, 1) := dk_3 (dk_at dksX10_plan_2 1 rfl rfl)
theorem dX10_plan_48 : decode cX10_plan 48 = .ok (.istore_n 3, 1) := dk_62 (dk_at dksX10_plan_2 2 rfl rfl)
theorem dX10_plan_49 : decode cX10_plan 49 = .ok (.aload_n 0, 1) := dk_42 (dk_at dksX10_plan_2 3 rfl rfl)
theorem dX10_plan_50 : decode cX10_plan 50 = .ok (.invokevirtual 182, 3) := dk_182 0 182 (dk_at dksX10_plan_2 4 rfl rfl)
theorem dX10_plan_53 : decode cX10_plan 53 = .ok (.ifCond .eq 110, 3) := dk_153 0 110 (dk_at dksX10_plan_2 7 rfl rfl)
theorem dX10_plan_56 : decode cX10_plan 56 = .ok (.aload_n 0, 1) := dk_42 (dk_at dksX10_plan_2 10 rfl rfl)
theorem dX10_plan_57 : decode cX10_plan 57 = .ok (.invokevirtual 282, 3) := dk_182 1 26 (dk_at dksX10_plan_2 11 rfl rfl)
theorem dX10_plan_60 : decode cX10_plan 60 = .ok (.ifCond .eq 103, 3) := dk_153 0 103 (dk_at dksX10_plan_2 14 rfl rfl)
theorem dX10_plan_63 : decode cX10_plan 63 = .ok (.aload_n 0, 1) := dk_42 (dk_at dksX10_plan_2 17 rfl rfl)
theorem dX10_plan_64 : decode cX10_plan 64 = .ok (.getfield 159, 3) := dk_180 0 159 (dk_at dksX10_plan_2 18 rfl rfl)
theorem dX10_plan_67 : decode cX10_plan 67 = .ok (.istore 4, 2) := dk_54 4 (dk_at dksX10_plan_2 21 rfl rfl)
theorem dX10_plan_69 : decode cX10_plan 69 = .ok (.aload_n 0, 1) := dk_42 (dk_at dksX10_plan_2 23 rfl rfl)
theorem dX10_plan_70 : decode cX10_plan 70 = .ok (.iconst 0, 1) := dk_3 (dk_at dksX10_plan_3 0 rfl rfl)
theorem dX10_plan_71 : decode cX10_plan 71 = .ok (.aload_n 0, 1) := dk_42 (dk_at dksX10_plan_3 1 rfl rfl)
theorem dX10_plan_72 : decode cX10_plan 72 = .ok (.getfield 217, 3) := dk_180 0 217 (dk_at dksX10_plan_3 2 rfl rfl)
theorem dX10_plan_75 : decode cX10_plan 75 = .ok (.iconst 1, 1) := dk_4 (dk_at dksX10_plan_3 5 rfl rfl)
theorem dX10_plan_76 : decode cX10_plan 76 = .ok (.isub, 1) := dk_100 (dk_at dksX10_plan_3 6 rfl rfl)
theorem dX10_plan_77 : decode cX10_plan 77 = .ok (.invokevirtual 254, 3) := dk_182 0 254 (dk_at dksX10_plan_3 7 rfl rfl)
theorem dX10_plan_80 : decode cX10_plan 80 = .ok (.istore 5, 2) := dk_54 5 (dk_at dksX10_plan_3 10 rfl rfl)
theorem dX10_plan_82 : decode cX10_plan 82 = .ok (.aload_n 0, 1) := dk_42 (dk_at dksX10_plan_3 12 rfl rfl)
theorem dX10_plan_83 : decode cX10_plan 83 = .ok (.invokevirtual 182, 3) := dk_182 0 182 (dk_at dksX10_plan_3 13 rfl rfl)
theorem dX10_plan_86 : decode cX10_plan 86 = .ok (.ifCond .eq 20, 3) := dk_153 0 20 (dk_at dksX10_plan_3 16 rfl rfl)
theorem dX10_plan_89 : decode cX10_plan 89 = .ok (.iload_n 3, 1) := dk_29 (dk_at dksX10_plan_3 19 rfl rfl)
theorem dX10_plan_90 : decode cX10_plan 90 = .ok (.iload 5, 2) := dk_21 5 (dk_at dksX10_plan_3 20 rfl rfl)
theorem dX10_plan_92 : decode cX10_plan 92 = .ok (.ishr, 1) := dk_122 (dk_at dksX10_plan_3 22 rfl rfl)
theorem dX10_plan_93 : decode cX10_plan 93 = .ok (.iconst 1, 1) := dk_4 (dk_at dksX10_plan_3 23 rfl rfl)
theorem dX10_plan_94 : decode cX10_plan 94 = .ok (.iand, 1) := dk_126 (dk_at dksX10_plan_4 0 rfl rfl)
theorem dX10_plan_95 : decode cX10_plan 95 = .ok (.iconst 1, 1) := dk_4 (dk_at dksX10_plan_4 1 rfl rfl)
theorem dX10_plan_96 : decode cX10_plan 96 = .ok (.if_icmp .ne 10, 3) := dk_160 0 10 (dk_at dksX10_plan_4 2 rfl rfl)
theorem dX10_plan_99 : decode cX10_plan 99 = .ok (.aload_n 0, 1) := dk_42 (dk_at dksX10_plan_4 5 rfl rfl)
theorem dX10_plan_100 : decode cX10_plan 100 = .ok (.iconst 2, 1) := dk_5 (dk_at dksX10_plan_4 6 rfl rfl)
theorem dX10_plan_101 : decode cX10_plan 101 = .ok (.iload 4, 2) := dk_21 4 (dk_at dksX10_plan_4 7 rfl rfl)
theorem dX10_plan_103 : decode cX10_plan 103 = .ok (.invokevirtual 189, 3) := dk_182 0 189 (dk_at dksX10_plan_4 9 rfl rfl)
theorem dX10_plan_106 : decode cX10_plan 106 = .ok (.aload_n 0, 1) := dk_42 (dk_at dksX10_plan_4 12 rfl rfl)
theorem dX10_plan_107 : decode cX10_plan 107 = .ok (.invokevirtual 361, 3) := dk_182 1 105 (dk_at dksX10_plan_4 13 rfl rfl)
theorem dX10_plan_110 : decode cX10_plan 110 = .ok (.istore 6, 2) := dk_54 6 (dk_at dksX10_plan_4 16 rfl rfl)
theorem dX10_plan_112 : decode cX10_plan 112 = .ok (.aload_n 0, 1) := dk_42 (dk_at dksX10_plan_4 18 rfl rfl)
theorem dX10_plan_113 : decode cX10_plan 113 = .ok (.bipush 59, 2) := dk_16 59 (dk_at dksX10_plan_4 19 rfl rfl)
theorem dX10_plan_115 : decode cX10_plan 115 = .ok (.invokevirtual 306, 3) := dk_182 1 50 (dk_at dksX10_plan_4 21 rfl rfl)
theorem dX10_plan_118 : decode cX10_plan 118 = .ok (.aload_n 0, 1) := dk_42 (dk_at dksX10_plan_5 0 rfl rfl)
theorem dX10_plan_119 : decode cX10_plan 119 = .ok (.invokevirtual 182, 3) := dk_182 0 182 (dk_at dksX10_plan_5 1 rfl rfl)
theorem dX10_plan_122 : decode cX10_plan 122 = .ok (.ifCond .ne 6, 3) := dk_154 0 6 (dk_at dksX10_plan_5 4 rfl rfl)
theorem dX10_plan_125 : decode cX10_plan 125 = .ok (.goto 38, 3) := dk_167 0 38 (dk_at dksX10_plan_5 7 rfl rfl)
theorem dX10_plan_128 : decode cX10_plan 128 = .ok (.iload_n 3, 1) := dk_29 (dk_at dksX10_plan_5 10 rfl rfl)
theorem dX10_plan_129 : decode cX10_plan 129 = .ok (.iconst 1, 1) := dk_4 (dk_at dksX10_plan_5 11 rfl rfl)
theorem dX10_plan_130 : decode cX10_plan 130 = .ok (.iload 5, 2) := dk_21 5 (dk_at dksX10_plan_5 12 rfl rfl)
theorem dX10_plan_132 : decode cX10_plan 132 = .ok (.ishl, 1) := dk_120 (dk_at dksX10_plan_5 14 rfl rfl)
theorem dX10_plan_133 : decode cX10_plan 133 = .ok (.ior, 1) := dk_128 (dk_at dksX10_plan_5 15 rfl rfl)
theorem dX10_plan_134 : decode cX10_plan 134 = .ok (.istore_n 3, 1) := dk_62 (dk_at dksX10_plan_5 16 rfl rfl)
theorem dX10_plan_135 : decode cX10_plan 135 = .ok (.aload_n 0, 1) := dk_42 (dk_at dksX10_plan_5 17 rfl rfl)
theorem dX10_plan_136 : decode cX10_plan 136 = .ok (.getfield 90, 3) := dk_180 0 90 (dk_at dksX10_plan_5 18 rfl rfl)
theorem dX10_plan_139 : decode cX10_plan 139 = .ok (.iconst 2, 1) := dk_5 (dk_at dksX10_plan_5 21 rfl rfl)
theorem dX10_plan_140 : decode cX10_plan 140 = .ok (.iload_n 2, 1) := dk_28 (dk_at dksX10_plan_5 22 rfl rfl)
theorem dX10_plan_141 : decode cX10_plan 141 = .ok (.imul, 1) := dk_104 (dk_at dksX10_plan_5 23 rfl rfl)
theorem dX10_plan_142 : decode cX10_plan 142 = .ok (.iload 5, 2) := dk_21 5 (dk_at dksX10_plan_6 0 rfl rfl)
theorem dX10_plan_144 : decode cX10_plan 144 = .ok (.iastore, 1) := dk_79 (dk_at dksX10_plan_6 2 rfl rfl)
theorem dX10_plan_145 : decode cX10_plan 145 = .ok (.aload_n 0, 1) := dk_42 (dk_at dksX10_plan_6 3 rfl rfl)
theorem dX10_plan_146 : decode cX10_plan 146 = .ok (.getfield 90, 3) := dk_180 0 90 (dk_at dksX10_plan_6 4 rfl rfl)
theorem dX10_plan_149 : decode cX10_plan 149 = .ok (.iconst 2, 1) := dk_5 (dk_at dksX10_plan_6 7 rfl rfl)
theorem dX10_plan_150 : decode cX10_plan 150 = .ok (.iload_n 2, 1) := dk_28 (dk_at dksX10_plan_6 8 rfl rfl)
theorem dX10_plan_151 : decode cX10_plan 151 = .ok (.imul, 1) := dk_104 (dk_at dksX10_plan_6 9 rfl rfl)
theorem dX10_plan_152 : decode cX10_plan 152 = .ok (.iconst 1, 1) := dk_4 (dk_at dksX10_plan_6 10 rfl rfl)
theorem dX10_plan_153 : decode cX10_plan 153 = .ok (.iadd, 1) := dk_96 (dk_at dksX10_plan_6 11 rfl rfl)
theorem dX10_plan_154 : decode cX10_plan 154 = .ok (.iload 6, 2) := dk_21 6 (dk_at dksX10_plan_6 12 rfl rfl)
theorem dX10_plan_156 : decode cX10_plan 156 = .ok (.iastore, 1) := dk_79 (dk_at dksX10_plan_6 14 rfl rfl)
theorem dX10_plan_157 : decode cX10_plan 157 = .ok (.iinc 2 1, 3) := dk_132 2 1 (dk_at dksX10_plan_6 15 rfl rfl)
theorem dX10_plan_160 : decode cX10_plan 160 = .ok (.goto (-111), 3) := dk_167 255 145 (dk_at dksX10_plan_6 18 rfl rfl)
theorem dX10_plan_163 : decode cX10_plan 163 = .ok (.aload_n 0, 1) := dk_42 (dk_at dksX10_plan_6 21 rfl rfl)
theorem dX10_plan_164 : decode cX10_plan 164 = .ok (.iload_n 2, 1) := dk_28 (dk_at dksX10_plan_6 22 rfl rfl)
theorem dX10_plan_165 : decode cX10_plan 165 = .ok (.invokevirtual 309, 3) := dk_182 1 53 (dk_at dksX10_plan_7 0 rfl rfl)
theorem dX10_plan_168 : decode cX10_plan 168 = .ok (.istore 4, 2) := dk_54 4 (dk_at dksX10_plan_7 3 rfl rfl)
theorem dX10_plan_170 : decode cX10_plan 170 = .ok (.aload_n 0, 1) := dk_42 (dk_at dksX10_plan_7 5 rfl rfl)
theorem dX10_plan_171 : decode cX10_plan 171 = .ok (.getfield 153, 3) := dk_180 0 153 (dk_at dksX10_plan_7 6 rfl rfl)
theorem dX10_plan_174 : decode cX10_plan 174 = .ok (.iconst (-1), 1) := dk_2 (dk_at dksX10_plan_7 9 rfl rfl)
theorem dX10_plan_175 : decode cX10_plan 175 = .ok (.if_icmp .eq 6, 3) := dk_159 0 6 (dk_at dksX10_plan_7 10 rfl rfl)
theorem dX10_plan_178 : decode cX10_plan 178 = .ok (.iload 4, 2) := dk_21 4 (dk_at dksX10_plan_7 13 rfl rfl)
theorem dX10_plan_180 : decode cX10_plan 180 = .ok (.ireturn, 1) := dk_172 (dk_at dksX10_plan_7 15 rfl rfl)
theorem dX10_plan_181 : decode cX10_plan 181 = .ok (.aload_n 0, 1) := dk_42 (dk_at dksX10_plan_7 16 rfl rfl)
theorem dX10_plan_182 : decode cX10_plan 182 = .ok (.iload_n 2, 1) := dk_28 (dk_at dksX10_plan_7 17 rfl rfl)
theorem dX10_plan_183 : decode cX10_plan 183 = .ok (.putfield 236, 3) := dk_181 0 236 (dk_at dksX10_plan_7 18 rfl rfl)
theorem dX10_plan_186 : decode cX10_plan 186 = .ok (.aload_n 0, 1) := dk_42 (dk_at dksX10_plan_7 21 rfl rfl)
theorem dX10_plan_187 : decode cX10_plan 187 = .ok (.aload_n 0, 1) := dk_42 (dk_at dksX10_plan_7 22 rfl rfl)
theorem dX10_plan_188 : decode cX10_plan 188 = .ok (.getfield 90, 3) := dk_180 0 90 (dk_at dksX10_plan_8 0 rfl rfl)
theorem dX10_plan_191 : decode cX10_plan 191 = .ok (.aload_n 0, 1) := dk_42 (dk_at dksX10_plan_8 3 rfl rfl)
theorem dX10_plan_192 : decode cX10_plan 192 = .ok (.getfield 93, 3) := dk_180 0 93 (dk_at dksX10_plan_8 4 rfl rfl)
theorem dX10_plan_195 : decode cX10_plan 195 = .ok (.iconst 2, 1) := dk_5 (dk_at dksX10_plan_8 7 rfl rfl)
theorem dX10_plan_196 : decode cX10_plan 196 = .ok (.iload_n 2, 1) := dk_28 (dk_at dksX10_plan_8 8 rfl rfl)
theorem dX10_plan_197 : decode cX10_plan 197 = .ok (.imul, 1) := dk_104 (dk_at dksX10_plan_8 9 rfl rfl)
theorem dX10_plan_198 : decode cX10_plan 198 = .ok (.invokevirtual 229, 3) := dk_182 0 229 (dk_at dksX10_plan_8 10 rfl rfl)
theorem dX10_plan_201 : decode cX10_plan 201 = .ok (.aload_n 0, 1) := dk_42 (dk_at dksX10_plan_8 13 rfl rfl)
theorem dX10_plan_202 : decode cX10_plan 202 = .ok (.iconst 0, 1) := dk_3 (dk_at dksX10_plan_8 14 rfl rfl)
theorem dX10_plan_203 : decode cX10_plan 203 = .ok (.putfield 242, 3) := dk_181 0 242 (dk_at dksX10_plan_8 15 rfl rfl)
theorem dX10_plan_206 : decode cX10_plan 206 = .ok (.iload 4, 2) := dk_21 4 (dk_at dksX10_plan_8 18 rfl rfl)
theorem dX10_plan_208 : decode cX10_plan 208 = .ok (.ireturn, 1) := dk_172 (dk_at dksX10_plan_8 20 rfl rfl)
abbrev cX10_readPeople : ByteArray := prog_19_method_42_code
def yX10_readPeople : MethodName := ⟨RX10, "readPeople", "()I"⟩
def dkwX10_readPeople_4 : List UInt8 := [167, 0, 4, 3, 172]
abbrev dktX10_readPeople_4 : List UInt8 := dkwX10_readPeople_4 ++ []
def dkwX10_readPeople_3 : List UInt8 := [27, 160, 0, 9, 42, 5, 28, 182, 0, 189, 42, 182, 0, 182, 153, 0, 13, 4, 27, 120, 4, 29, 120, 128]
abbrev dktX10_readPeople_3 : List UInt8 := dkwX10_readPeople_3 ++ dktX10_readPeople_4
def dkwX10_readPeople_2 : List UInt8 := [180, 0, 159, 61, 42, 3, 42, 180, 0, 214, 4, 100, 182, 0, 254, 62, 42, 182, 0, 182, 153, 0, 14, 29]
abbrev dktX10_readPeople_2 : List UInt8 := dkwX10_readPeople_2 ++ dktX10_readPeople_3
def dkwX10_readPeople_1 : List UInt8 := [184, 0, 186, 154, 0, 18, 42, 182, 0, 182, 153, 0, 9, 4, 27, 120, 167, 0, 4, 3, 172, 42]
abbrev dktX10_readPeople_1 : List UInt8 := dkwX10_readPeople_1 ++ dktX10_readPeople_2
def dkwX10_readPeople_0 : List UInt8 := [42, 3, 42, 180, 0, 214, 4, 100, 182, 0, 254, 60, 42, 182, 0, 182, 153, 0, 13, 42, 182, 0, 165]
abbrev dktX10_readPeople_0 : List UInt8 := dkwX10_readPeople_0 ++ dktX10_readPeople_1
theorem dksX10_readPeople_0 : cX10_readPeople.data.toList.drop 0 = dktX10_readPeople_0 := by decide +kernel
theorem dksX10_readPeople_1 : cX10_readPeople.data.toList.drop 23 = dktX10_readPeople_1 := dk_seg dksX10_readPeople_0 23 rfl rfl
theorem dksX10_readPeople_2 : cX10_readPeople.data.toList.drop 45 = dktX10_readPeople_2 := dk_seg dksX10_readPeople_1 22 rfl rfl
theorem dksX10_readPeople_3 : cX10_readPeople.data.toList.drop 69 = dktX10_readPeople_3 := dk_seg dksX10_readPeople_2 24 rfl rfl
theorem dksX10_readPeople_4 : cX10_readPeople.data.toList.drop 93 = dktX10_readPeople_4 := dk_seg dksX10_readPeople_3 24 rfl rfl
theorem dX10_readPeople_0 : decode cX10_readPeople 0 = .ok (.aload_n 0, 1) := dk_42 (dk_at dksX10_readPeople_0 0 rfl rfl)
theorem dX10_readPeople_1 : decode cX10_readPeople 1 = .ok (.iconst 0, 1) := dk_3 (dk_at dksX10_readPeople_0 1 rfl rfl)
theorem dX10_readPeople_2 : decode cX10_readPeople 2 = .ok (.aload_n 0, 1) := dk_42 (dk_at dksX10_readPeople_0 2 rfl rfl)
theorem dX10_readPeople_3 : decode cX10_readPeople 3 = .ok (.getfield 214, 3) := dk_180 0 214 (dk_at dksX10_readPeople_0 3 rfl rfl)
theorem dX10_readPeople_6 : decode cX10_readPeople 6 = .ok (.iconst 1, 1) := dk_4 (dk_at dksX10_readPeople_0 6 rfl rfl)
theorem dX10_readPeople_7 : decode cX10_readPeople 7 = .ok (.isub, 1) := dk_100 (dk_at dksX10_readPeople_0 7 rfl rfl)
theorem dX10_readPeople_8 : decode cX10_readPeople 8 = .ok (.invokevirtual 254, 3) := dk_182 0 254 (dk_at dksX10_readPeople_0 8 rfl rfl)
theorem dX10_readPeople_11 : decode cX10_readPeople 11 = .ok (.istore_n 1, 1) := dk_60 (dk_at dksX10_readPeople_0 11 rfl rfl)
theorem dX10_readPeople_12 : decode cX10_readPeople 12 = .ok (.aload_n 0, 1) := dk_42 (dk_at dksX10_readPeople_0 12 rfl rfl)
theorem dX10_readPeople_13 : decode cX10_readPeople 13 = .ok (.invokevirtual 182, 3) := dk_182 0 182 (dk_at dksX10_readPeople_0 13 rfl rfl)
theorem dX10_readPeople_16 : decode cX10_readPeople 16 = .ok (.ifCond .eq 13, 3) := dk_153 0 13 (dk_at dksX10_readPeople_0 16 rfl rfl)
theorem dX10_readPeople_19 : decode cX10_readPeople 19 = .ok (.aload_n 0, 1) := dk_42 (dk_at dksX10_readPeople_0 19 rfl rfl)
theorem dX10_readPeople_20 : decode cX10_readPeople 20 = .ok (.invokevirtual 165, 3) := dk_182 0 165 (dk_at dksX10_readPeople_0 20 rfl rfl)
theorem dX10_readPeople_23 : decode cX10_readPeople 23 = .ok (.invokestatic 186, 3) := dk_184 0 186 (dk_at dksX10_readPeople_1 0 rfl rfl)
theorem dX10_readPeople_26 : decode cX10_readPeople 26 = .ok (.ifCond .ne 18, 3) := dk_154 0 18 (dk_at dksX10_readPeople_1 3 rfl rfl)
theorem dX10_readPeople_29 : decode cX10_readPeople 29 = .ok (.aload_n 0, 1) := dk_42 (dk_at dksX10_readPeople_1 6 rfl rfl)
theorem dX10_readPeople_30 : decode cX10_readPeople 30 = .ok (.invokevirtual 182, 3) := dk_182 0 182 (dk_at dksX10_readPeople_1 7 rfl rfl)
theorem dX10_readPeople_33 : decode cX10_readPeople 33 = .ok (.ifCond .eq 9, 3) := dk_153 0 9 (dk_at dksX10_readPeople_1 10 rfl rfl)
theorem dX10_readPeople_36 : decode cX10_readPeople 36 = .ok (.iconst 1, 1) := dk_4 (dk_at dksX10_readPeople_1 13 rfl rfl)
theorem dX10_readPeople_37 : decode cX10_readPeople 37 = .ok (.iload_n 1, 1) := dk_27 (dk_at dksX10_readPeople_1 14 rfl rfl)
theorem dX10_readPeople_38 : decode cX10_readPeople 38 = .ok (.ishl, 1) := dk_120 (dk_at dksX10_readPeople_1 15 rfl rfl)
theorem dX10_readPeople_39 : decode cX10_readPeople 39 = .ok (.goto 4, 3) := dk_167 0 4 (dk_at dksX10_readPeople_1 16 rfl rfl)
theorem dX10_readPeople_42 : decode cX10_readPeople 42 = .ok (.iconst 0, 1) := dk_3 (dk_at dksX10_readPeople_1 19 rfl rfl)
theorem dX10_readPeople_43 : decode cX10_readPeople 43 = .ok (.ireturn, 1) := dk_172 (dk_at dksX10_readPeople_1 20 rfl rfl)
theorem dX10_readPeople_44 : decode cX10_readPeople 44 = .ok (.aload_n 0, 1) := dk_42 (dk_at dksX10_readPeople_1 21 rfl rfl)
theorem dX10_readPeople_45 : decode cX10_readPeople 45 = .ok (.getfield 159, 3) := dk_180 0 159 (dk_at dksX10_readPeople_2 0 rfl rfl)
theorem dX10_readPeople_48 : decode cX10_readPeople 48 = .ok (.istore_n 2, 1) := dk_61 (dk_at dksX10_readPeople_2 3 rfl rfl)
theorem dX10_readPeople_49 : decode cX10_readPeople 49 = .ok (.aload_n 0, 1) := dk_42 (dk_at dksX10_readPeople_2 4 rfl rfl)
theorem dX10_readPeople_50 : decode cX10_readPeople 50 = .ok (.iconst 0, 1) := dk_3 (dk_at dksX10_readPeople_2 5 rfl rfl)
theorem dX10_readPeople_51 : decode cX10_readPeople 51 = .ok (.aload_n 0, 1) := dk_42 (dk_at dksX10_readPeople_2 6 rfl rfl)
theorem dX10_readPeople_52 : decode cX10_readPeople 52 = .ok (.getfield 214, 3) := dk_180 0 214 (dk_at dksX10_readPeople_2 7 rfl rfl)
theorem dX10_readPeople_55 : decode cX10_readPeople 55 = .ok (.iconst 1, 1) := dk_4 (dk_at dksX10_readPeople_2 10 rfl rfl)
theorem dX10_readPeople_56 : decode cX10_readPeople 56 = .ok (.isub, 1) := dk_100 (dk_at dksX10_readPeople_2 11 rfl rfl)
theorem dX10_readPeople_57 : decode cX10_readPeople 57 = .ok (.invokevirtual 254, 3) := dk_182 0 254 (dk_at dksX10_readPeople_2 12 rfl rfl)
theorem dX10_readPeople_60 : decode cX10_readPeople 60 = .ok (.istore_n 3, 1) := dk_62 (dk_at dksX10_readPeople_2 15 rfl rfl)
theorem dX10_readPeople_61 : decode cX10_readPeople 61 = .ok (.aload_n 0, 1) := dk_42 (dk_at dksX10_readPeople_2 16 rfl rfl)
theorem dX10_readPeople_62 : decode cX10_readPeople 62 = .ok (.invokevirtual 182, 3) := dk_182 0 182 (dk_at dksX10_readPeople_2 17 rfl rfl)
theorem dX10_readPeople_65 : decode cX10_readPeople 65 = .ok (.ifCond .eq 14, 3) := dk_153 0 14 (dk_at dksX10_readPeople_2 20 rfl rfl)
theorem dX10_readPeople_68 : decode cX10_readPeople 68 = .ok (.iload_n 3, 1) := dk_29 (dk_at dksX10_readPeople_2 23 rfl rfl)
theorem dX10_readPeople_69 : decode cX10_readPeople 69 = .ok (.iload_n 1, 1) := dk_27 (dk_at dksX10_readPeople_3 0 rfl rfl)
theorem dX10_readPeople_70 : decode cX10_readPeople 70 = .ok (.if_icmp .ne 9, 3) := dk_160 0 9 (dk_at dksX10_readPeople_3 1 rfl rfl)
theorem dX10_readPeople_73 : decode cX10_readPeople 73 = .ok (.aload_n 0, 1) := dk_42 (dk_at dksX10_readPeople_3 4 rfl rfl)
theorem dX10_readPeople_74 : decode cX10_readPeople 74 = .ok (.iconst 2, 1) := dk_5 (dk_at dksX10_readPeople_3 5 rfl rfl)
theorem dX10_readPeople_75 : decode cX10_readPeople 75 = .ok (.iload_n 2, 1) := dk_28 (dk_at dksX10_readPeople_3 6 rfl rfl)
theorem dX10_readPeople_76 : decode cX10_readPeople 76 = .ok (.invokevirtual 189, 3) := dk_182 0 189 (dk_at dksX10_readPeople_3 7 rfl rfl)
theorem dX10_readPeople_79 : decode cX10_readPeople 79 = .ok (.aload_n 0, 1) := dk_42 (dk_at dksX10_readPeople_3 10 rfl rfl)
theorem dX10_readPeople_80 : decode cX10_readPeople 80 = .ok (.invokevirtual 182, 3) := dk_182 0 182 (dk_at dksX10_readPeople_3 11 rfl rfl)
theorem dX10_readPeople_83 : decode cX10_readPeople 83 = .ok (.ifCond .eq 13, 3) := dk_153 0 13 (dk_at dksX10_readPeople_3 14 rfl rfl)
theorem dX10_readPeople_86 : decode cX10_readPeople 86 = .ok (.iconst 1, 1) := dk_4 (dk_at dksX10_readPeople_3 17 rfl rfl)
theorem dX10_readPeople_87 : decode cX10_readPeople 87 = .ok (.iload_n 1, 1) := dk_27 (dk_at dksX10_readPeople_3 18 rfl rfl)
theorem dX10_readPeople_88 : decode cX10_readPeople 88 = .ok (.ishl, 1) := dk_120 (dk_at dksX10_readPeople_3 19 rfl rfl)
theorem dX10_readPeople_89 : decode cX10_readPeople 89 = .ok (.iconst 1, 1) := dk_4 (dk_at dksX10_readPeople_3 20 rfl rfl)
theorem dX10_readPeople_90 : decode cX10_readPeople 90 = .ok (.iload_n 3, 1) := dk_29 (dk_at dksX10_readPeople_3 21 rfl rfl)
theorem dX10_readPeople_91 : decode cX10_readPeople 91 = .ok (.ishl, 1) := dk_120 (dk_at dksX10_readPeople_3 22 rfl rfl)
theorem dX10_readPeople_92 : decode cX10_readPeople 92 = .ok (.ior, 1) := dk_128 (dk_at dksX10_readPeople_3 23 rfl rfl)
theorem dX10_readPeople_93 : decode cX10_readPeople 93 = .ok (.goto 4, 3) := dk_167 0 4 (dk_at dksX10_readPeople_4 0 rfl rfl)
theorem dX10_readPeople_96 : decode cX10_readPeople 96 = .ok (.iconst 0, 1) := dk_3 (dk_at dksX10_readPeople_4 3 rfl rfl)
theorem dX10_readPeople_97 : decode cX10_readPeople 97 = .ok (.ireturn, 1) := dk_172 (dk_at dksX10_readPeople_4 4 rfl rfl)
abbrev cX10_book : ByteArray := prog_19_method_43_code
def yX10_book : MethodName := ⟨RX10, "book", "(I)I"⟩
def dkwX10_book_8 : List UInt8 := [29, 172]
abbrev dktX10_book_8 : List UInt8 := dkwX10_book_8 ++ []
def dkwX10_book_7 : List UInt8 := [2, 159, 0, 5, 29, 172, 42, 28, 181, 0, 239, 42, 42, 180, 0, 96, 42, 180, 0, 99, 6, 182, 0, 229]
abbrev dktX10_book_7 : List UInt8 := dkwX10_book_7 ++ dktX10_book_8
def dkwX10_book_6 : List UInt8 := [180, 0, 96, 21, 4, 21, 5, 79, 132, 2, 1, 167, 255, 169, 42, 28, 182, 1, 53, 62, 42, 180, 0, 153]
abbrev dktX10_book_6 : List UInt8 := dkwX10_book_6 ++ dktX10_book_7
def dkwX10_book_5 : List UInt8 := [3, 4, 182, 0, 254, 54, 5, 42, 16, 59, 182, 1, 50, 42, 182, 0, 182, 154, 0, 6, 167, 0, 18, 42]
abbrev dktX10_book_5 : List UInt8 := dkwX10_book_5 ++ dktX10_book_6
def dkwX10_book_4 : List UInt8 := [182, 0, 182, 153, 0, 20, 42, 180, 0, 96, 21, 4, 46, 2, 159, 0, 9, 42, 5, 29, 182, 0, 189, 42]
abbrev dktX10_book_4 : List UInt8 := dkwX10_book_4 ++ dktX10_book_5
def dkwX10_book_3 : List UInt8 := [153, 0, 86, 42, 182, 1, 26, 153, 0, 79, 42, 180, 0, 159, 62, 42, 3, 5, 182, 0, 254, 54, 4, 42]
abbrev dktX10_book_3 : List UInt8 := dkwX10_book_3 ++ dktX10_book_4
def dkwX10_book_2 : List UInt8 := [162, 0, 16, 42, 180, 0, 96, 28, 2, 79, 132, 2, 1, 167, 255, 241, 3, 61, 42, 182, 0, 182]
abbrev dktX10_book_2 : List UInt8 := dkwX10_book_2 ++ dktX10_book_3
def dkwX10_book_1 : List UInt8 := [4, 167, 0, 4, 3, 4, 4, 182, 1, 19, 154, 0, 5, 3, 172, 42, 27, 182, 1, 23, 3, 61, 28, 6]
abbrev dktX10_book_1 : List UInt8 := dkwX10_book_1 ++ dktX10_book_2
def dkwX10_book_0 : List UInt8 := [42, 3, 181, 0, 3, 42, 27, 155, 0, 21, 27, 42, 180, 0, 150, 163, 0, 13, 27, 16, 40, 163, 0, 7]
abbrev dktX10_book_0 : List UInt8 := dkwX10_book_0 ++ dktX10_book_1
theorem dksX10_book_0 : cX10_book.data.toList.drop 0 = dktX10_book_0 := by decide +kernel
theorem dksX10_book_1 : cX10_book.data.toList.drop 24 = dktX10_book_1 := dk_seg dksX10_book_0 24 rfl rfl
theorem dksX10_book_2 : cX10_book.data.toList.drop 48 = dktX10_book_2 := dk_seg dksX10_book_1 24 rfl rfl
theorem dksX10_book_3 : cX10_book.data.toList.drop 70 = dktX10_book_3 := dk_seg dksX10_book_2 22 rfl rfl
theorem dksX10_book_4 : cX10_book.data.toList.drop 94 = dktX10_book_4 := dk_seg dksX10_book_3 24 rfl rfl
theorem dksX10_book_5 : cX10_book.data.toList.drop 118 = dktX10_book_5 := dk_seg dksX10_book_4 24 rfl rfl
theorem dksX10_book_6 : cX10_book.data.toList.drop 142 = dktX10_book_6 := dk_seg dksX10_book_5 24 rfl rfl
theorem dksX10_book_7 : cX10_book.data.toList.drop 166 = dktX10_book_7 := dk_seg dksX10_book_6 24 rfl rfl
theorem dksX10_book_8 : cX10_book.data.toList.drop 190 = dktX10_book_8 := dk_seg dksX10_book_7 24 rfl rfl
theorem dX10_book_0 : decode cX10_book 0 = .ok (.aload_n 0, 1) := dk_42 (dk_at dksX10_book_0 0 rfl rfl)
theorem dX10_book_1 : decode cX10_book 1 = .ok (.iconst 0, 1) := dk_3 (dk_at dksX10_book_0 1 rfl rfl)
theorem dX10_book_2 : decode cX10_book 2 = .ok (.putfield 3, 3) := dk_181 0 3 (dk_at dksX10_book_0 2 rfl rfl)
theorem dX10_book_5 : decode cX10_book 5 = .ok (.aload_n 0, 1) := dk_42 (dk_at dksX10_book_0 5 rfl rfl)
theorem dX10_book_6 : decode cX10_book 6 = .ok (.iload_n 1, 1) := dk_27 (dk_at dksX10_book_0 6 rfl rfl)
theorem dX10_book_7 : decode cX10_book 7 = .ok (.ifCond .lt 21, 3) := dk_155 0 21 (dk_at dksX10_book_0 7 rfl rfl)
theorem dX10_book_10 : decode cX10_book 10 = .ok (.iload_n 1, 1) := dk_27 (dk_at dksX10_book_0 10 rfl rfl)
theorem dX10_book_11 : decode cX10_book 11 = .ok (.aload_n 0, 1) := dk_42 (dk_at dksX10_book_0 11 rfl rfl)
theorem dX10_book_12 : decode cX10_book 12 = .ok (.getfield 150, 3) := dk_180 0 150 (dk_at dksX10_book_0 12 rfl rfl)
theorem dX10_book_15 : decode cX10_book 15 = .ok (.if_icmp .gt 13, 3) := dk_163 0 13 (dk_at dksX10_book_0 15 rfl rfl)
theorem dX10_book_18 : decode cX10_book 18 = .ok (.iload_n 1, 1) := dk_27 (dk_at dksX10_book_0 18 rfl rfl)
theorem dX10_book_19 : decode cX10_book 19 = .ok (.bipush 40, 2) := dk_16 40 (dk_at dksX10_book_0 19 rfl rfl)
theorem dX10_book_21 : decode cX10_book 21 = .ok (.if_icmp .gt 7, 3) := dk_163 0 7 (dk_at dksX10_book_0 21 rfl rfl)
theorem dX10_book_24 : decode cX10_book 24 = .ok (.iconst 1, 1) := dk_4 (dk_at dksX10_book_1 0 rfl rfl)
theorem dX10_book_25 : decode cX10_book 25 = .ok (.goto 4, 3) := dk_167 0 4 (dk_at dksX10_book_1 1 rfl rfl)
theorem dX10_book_28 : decode cX10_book 28 = .ok (.iconst 0, 1) := dk_3 (dk_at dksX10_book_1 4 rfl rfl)
theorem dX10_book_29 : decode cX10_book 29 = .ok (.iconst 1, 1) := dk_4 (dk_at dksX10_book_1 5 rfl rfl)
theorem dX10_book_30 : decode cX10_book 30 = .ok (.iconst 1, 1) := dk_4 (dk_at dksX10_book_1 6 rfl rfl)
theorem dX10_book_31 : decode cX10_book 31 = .ok (.invokevirtual 275, 3) := dk_182 1 19 (dk_at dksX10_book_1 7 rfl rfl)
theorem dX10_book_34 : decode cX10_book 34 = .ok (.ifCond .ne 5, 3) := dk_154 0 5 (dk_at dksX10_book_1 10 rfl rfl)
theorem dX10_book_37 : decode cX10_book 37 = .ok (.iconst 0, 1) := dk_3 (dk_at dksX10_book_1 13 rfl rfl)
theorem dX10_book_38 : decode cX10_book 38 = .ok (.ireturn, 1) := dk_172 (dk_at dksX10_book_1 14 rfl rfl)
theorem dX10_book_39 : decode cX10_book 39 = .ok (.aload_n 0, 1) := dk_42 (dk_at dksX10_book_1 15 rfl rfl)
theorem dX10_book_40 : decode cX10_book 40 = .ok (.iload_n 1, 1) := dk_27 (dk_at dksX10_book_1 16 rfl rfl)
theorem dX10_book_41 : decode cX10_book 41 = .ok (.invokevirtual 279, 3) := dk_182 1 23 (dk_at dksX10_book_1 17 rfl rfl)
theorem dX10_book_44 : decode cX10_book 44 = .ok (.iconst 0, 1) := dk_3 (dk_at dksX10_book_1 20 rfl rfl)
theorem dX10_book_45 : decode cX10_book 45 = .ok (.istore_n 2, 1) := dk_61 (dk_at dksX10_book_1 21 rfl rfl)
theorem dX10_book_46 : decode cX10_book 46 = .ok (.iload_n 2, 1) := dk_28 (dk_at dksX10_book_1 22 rfl rfl)
theorem dX10_book_47 : decode cX10_book 47 = .ok (.iconst 3, 1) := dk_6 (dk_at dksX10_book_1 23 rfl rfl)
theorem dX10_book_48 : decode cX10_book 48 = .ok (.if_icmp .ge 16, 3) := dk_162 0 16 (dk_at dksX10_book_2 0 rfl rfl)
theorem dX10_book_51 : decode cX10_book 51 = .ok (.aload_n 0, 1) := dk_42 (dk_at dksX10_book_2 3 rfl rfl)
theorem dX10_book_52 : decode cX10_book 52 = .ok (.getfield 96, 3) := dk_180 0 96 (dk_at dksX10_book_2 4 rfl rfl)
theorem dX10_book_55 : decode cX10_book 55 = .ok (.iload_n 2, 1) := dk_28 (dk_at dksX10_book_2 7 rfl rfl)
theorem dX10_book_56 : decode cX10_book 56 = .ok (.iconst (-1), 1) := dk_2 (dk_at dksX10_book_2 8 rfl rfl)
theorem dX10_book_57 : decode cX10_book 57 = .ok (.iastore, 1) := dk_79 (dk_at dksX10_book_2 9 rfl rfl)
theorem dX10_book_58 : decode cX10_book 58 = .ok (.iinc 2 1, 3) := dk_132 2 1 (dk_at dksX10_book_2 10 rfl rfl)
theorem dX10_book_61 : decode cX10_book 61 = .ok (.goto (-15), 3) := dk_167 255 241 (dk_at dksX10_book_2 13 rfl rfl)
theorem dX10_book_64 : decode cX10_book 64 = .ok (.iconst 0, 1) := dk_3 (dk_at dksX10_book_2 16 rfl rfl)
theorem dX10_book_65 : decode cX10_book 65 = .ok (.istore_n 2, 1) := dk_61 (dk_at dksX10_book_2 17 rfl rfl)
theorem dX10_book_66 : decode cX10_book 66 = .ok (.aload_n 0, 1) := dk_42 (dk_at dksX10_book_2 18 rfl rfl)
theorem dX10_book_67 : decode cX10_book 67 = .ok (.invokevirtual 182, 3) := dk_182 0 182 (dk_at dksX10_book_2 19 rfl rfl)
theorem dX10_book_70 : decode cX10_book 70 = .ok (.ifCond .eq 86, 3) := dk_153 0 86 (dk_at dksX10_book_3 0 rfl rfl)
theorem dX10_book_73 : decode cX10_book 73 = .ok (.aload_n 0, 1) := dk_42 (dk_at dksX10_book_3 3 rfl rfl)
theorem dX10_book_74 : decode cX10_book 74 = .ok (.invokevirtual 282, 3) := dk_182 1 26 (dk_at dksX10_book_3 4 rfl rfl)
theorem dX10_book_77 : decode cX10_book 77 = .ok (.ifCond .eq 79, 3) := dk_153 0 79 (dk_at dksX10_book_3 7 rfl rfl)
theorem dX10_book_80 : decode cX10_book 80 = .ok (.aload_n 0, 1) := dk_42 (dk_at dksX10_book_3 10 rfl rfl)
theorem dX10_book_81 : decode cX10_book 81 = .ok (.getfield 159, 3) := dk_180 0 159 (dk_at dksX10_book_3 11 rfl rfl)
theorem dX10_book_84 : decode cX10_book 84 = .ok (.istore_n 3, 1) := dk_62 (dk_at dksX10_book_3 14 rfl rfl)
theorem dX10_book_85 : decode cX10_book 85 = .ok (.aload_n 0, 1) := dk_42 (dk_at dksX10_book_3 15 rfl rfl)
theorem dX10_book_86 : decode cX10_book 86 = .ok (.iconst 0, 1) := dk_3 (dk_at dksX10_book_3 16 rfl rfl)
theorem dX10_book_87 : decode cX10_book 87 = .ok (.iconst 2, 1) := dk_5 (dk_at dksX10_book_3 17 rfl rfl)
theorem dX10_book_88 : decode cX10_book 88 = .ok (.invokevirtual 254, 3) := dk_182 0 254 (dk_at dksX10_book_3 18 rfl rfl)
theorem dX10_book_91 : decode cX10_book 91 = .ok (.istore 4, 2) := dk_54 4 (dk_at dksX10_book_3 21 rfl rfl)
theorem dX10_book_93 : decode cX10_book 93 = .ok (.aload_n 0, 1) := dk_42 (dk_at dksX10_book_3 23 rfl rfl)
theorem dX10_book_94 : decode cX10_book 94 = .ok (.invokevirtual 182, 3) := dk_182 0 182 (dk_at dksX10_book_4 0 rfl rfl)
theorem dX10_book_97 : decode cX10_book 97 = .ok (.ifCond .eq 20, 3) := dk_153 0 20 (dk_at dksX10_book_4 3 rfl rfl)
theorem dX10_book_100 : decode cX10_book 100 = .ok (.aload_n 0, 1) := dk_42 (dk_at dksX10_book_4 6 rfl rfl)
theorem dX10_book_101 : decode cX10_book 101 = .ok (.getfield 96, 3) := dk_180 0 96 (dk_at dksX10_book_4 7 rfl rfl)
theorem dX10_book_104 : decode cX10_book 104 = .ok (.iload 4, 2) := dk_21 4 (dk_at dksX10_book_4 10 rfl rfl)
theorem dX10_book_106 : decode cX10_book 106 = .ok (.iaload, 1) := dk_46 (dk_at dksX10_book_4 12 rfl rfl)
theorem dX10_book_107 : decode cX10_book 107 = .ok (.iconst (-1), 1) := dk_2 (dk_at dksX10_book_4 13 rfl rfl)
theorem dX10_book_108 : decode cX10_book 108 = .ok (.if_icmp .eq 9, 3) := dk_159 0 9 (dk_at dksX10_book_4 14 rfl rfl)
theorem dX10_book_111 : decode cX10_book 111 = .ok (.aload_n 0, 1) := dk_42 (dk_at dksX10_book_4 17 rfl rfl)
theorem dX10_book_112 : decode cX10_book 112 = .ok (.iconst 2, 1) := dk_5 (dk_at dksX10_book_4 18 rfl rfl)
theorem dX10_book_113 : decode cX10_book 113 = .ok (.iload_n 3, 1) := dk_29 (dk_at dksX10_book_4 19 rfl rfl)
theorem dX10_book_114 : decode cX10_book 114 = .ok (.invokevirtual 189, 3) := dk_182 0 189 (dk_at dksX10_book_4 20 rfl rfl)
theorem dX10_book_117 : decode cX10_book 117 = .ok (.aload_n 0, 1) := dk_42 (dk_at dksX10_book_4 23 rfl rfl)
theorem dX10_book_118 : decode cX10_book 118 = .ok (.iconst 0, 1) := dk_3 (dk_at dksX10_book_5 0 rfl rfl)
theorem dX10_book_119 : decode cX10_book 119 = .ok (.iconst 1, 1) := dk_4 (dk_at dksX10_book_5 1 rfl rfl)
theorem dX10_book_120 : decode cX10_book 120 = .ok (.invokevirtual 254, 3) := dk_182 0 254 (dk_at dksX10_book_5 2 rfl rfl)
theorem dX10_book_123 : decode cX10_book 123 = .ok (.istore 5, 2) := dk_54 5 (dk_at dksX10_book_5 5 rfl rfl)
theorem dX10_book_125 : decode cX10_book 125 = .ok (.aload_n 0, 1) := dk_42 (dk_at dksX10_book_5 7 rfl rfl)
theorem dX10_book_126 : decode cX10_book 126 = .ok (.bipush 59, 2) := dk_16 59 (dk_at dksX10_book_5 8 rfl rfl)
theorem dX10_book_128 : decode cX10_book 128 = .ok (.invokevirtual 306, 3) := dk_182 1 50 (dk_at dksX10_book_5 10 rfl rfl)
theorem dX10_book_131 : decode cX10_book 131 = .ok (.aload_n 0, 1) := dk_42 (dk_at dksX10_book_5 13 rfl rfl)
theorem dX10_book_132 : decode cX10_book 132 = .ok (.invokevirtual 182, 3) := dk_182 0 182 (dk_at dksX10_book_5 14 rfl rfl)
theorem dX10_book_135 : decode cX10_book 135 = .ok (.ifCond .ne 6, 3) := dk_154 0 6 (dk_at dksX10_book_5 17 rfl rfl)
theorem dX10_book_138 : decode cX10_book 138 = .ok (.goto 18, 3) := dk_167 0 18 (dk_at dksX10_book_5 20 rfl rfl)
theorem dX10_book_141 : decode cX10_book 141 = .ok (.aload_n 0, 1) := dk_42 (dk_at dksX10_book_5 23 rfl rfl)
theorem dX10_book_142 : decode cX10_book 142 = .ok (.getfield 96, 3) := dk_180 0 96 (dk_at dksX10_book_6 0 rfl rfl)
theorem dX10_book_145 : decode cX10_book 145 = .ok (.iload 4, 2) := dk_21 4 (dk_at dksX10_book_6 3 rfl rfl)
theorem dX10_book_147 : decode cX10_book 147 = .ok (.iload 5, 2) := dk_21 5 (dk_at dksX10_book_6 5 rfl rfl)
theorem dX10_book_149 : decode cX10_book 149 = .ok (.iastore, 1) := dk_79 (dk_at dksX10_book_6 7 rfl rfl)
theorem dX10_book_150 : decode cX10_book 150 = .ok (.iinc 2 1, 3) := dk_132 2 1 (dk_at dksX10_book_6 8 rfl rfl)
theorem dX10_book_153 : decode cX10_book 153 = .ok (.goto (-87), 3) := dk_167 255 169 (dk_at dksX10_book_6 11 rfl rfl)
theorem dX10_book_156 : decode cX10_book 156 = .ok (.aload_n 0, 1) := dk_42 (dk_at dksX10_book_6 14 rfl rfl)
theorem dX10_book_157 : decode cX10_book 157 = .ok (.iload_n 2, 1) := dk_28 (dk_at dksX10_book_6 15 rfl rfl)
theorem dX10_book_158 : decode cX10_book 158 = .ok (.invokevirtual 309, 3) := dk_182 1 53 (dk_at dksX10_book_6 16 rfl rfl)
theorem dX10_book_161 : decode cX10_book 161 = .ok (.istore_n 3, 1) := dk_62 (dk_at dksX10_book_6 19 rfl rfl)
theorem dX10_book_162 : decode cX10_book 162 = .ok (.aload_n 0, 1) := dk_42 (dk_at dksX10_book_6 20 rfl rfl)
theorem dX10_book_163 : decode cX10_book 163 = .ok (.getfield 153, 3) := dk_180 0 153 (dk_at dksX10_book_6 21 rfl rfl)
theorem dX10_book_166 : decode cX10_book 166 = .ok (.iconst (-1), 1) := dk_2 (dk_at dksX10_book_7 0 rfl rfl)
theorem dX10_book_167 : decode cX10_book 167 = .ok (.if_icmp .eq 5, 3) := dk_159 0 5 (dk_at dksX10_book_7 1 rfl rfl)
theorem dX10_book_170 : decode cX10_book 170 = .ok (.iload_n 3, 1) := dk_29 (dk_at dksX10_book_7 4 rfl rfl)
theorem dX10_book_171 : decode cX10_book 171 = .ok (.ireturn, 1) := dk_172 (dk_at dksX10_book_7 5 rfl rfl)
theorem dX10_book_172 : decode cX10_book 172 = .ok (.aload_n 0, 1) := dk_42 (dk_at dksX10_book_7 6 rfl rfl)
theorem dX10_book_173 : decode cX10_book 173 = .ok (.iload_n 2, 1) := dk_28 (dk_at dksX10_book_7 7 rfl rfl)
theorem dX10_book_174 : decode cX10_book 174 = .ok (.putfield 239, 3) := dk_181 0 239 (dk_at dksX10_book_7 8 rfl rfl)
theorem dX10_book_177 : decode cX10_book 177 = .ok (.aload_n 0, 1) := dk_42 (dk_at dksX10_book_7 11 rfl rfl)
theorem dX10_book_178 : decode cX10_book 178 = .ok (.aload_n 0, 1) := dk_42 (dk_at dksX10_book_7 12 rfl rfl)
theorem dX10_book_179 : decode cX10_book 179 = .ok (.getfield 96, 3) := dk_180 0 96 (dk_at dksX10_book_7 13 rfl rfl)
theorem dX10_book_182 : decode cX10_book 182 = .ok (.aload_n 0, 1) := dk_42 (dk_at dksX10_book_7 16 rfl rfl)
theorem dX10_book_183 : decode cX10_book 183 = .ok (.getfield 99, 3) := dk_180 0 99 (dk_at dksX10_book_7 17 rfl rfl)
theorem dX10_book_186 : decode cX10_book 186 = .ok (.iconst 3, 1) := dk_6 (dk_at dksX10_book_7 20 rfl rfl)
theorem dX10_book_187 : decode cX10_book 187 = .ok (.invokevirtual 229, 3) := dk_182 0 229 (dk_at dksX10_book_7 21 rfl rfl)
theorem dX10_book_190 : decode cX10_book 190 = .ok (.iload_n 3, 1) := dk_29 (dk_at dksX10_book_8 0 rfl rfl)
theorem dX10_book_191 : decode cX10_book 191 = .ok (.ireturn, 1) := dk_172 (dk_at dksX10_book_8 1 rfl rfl)
abbrev cX10_told : ByteArray := prog_19_method_44_code
def yX10_told : MethodName := ⟨RX10, "told", "(I)I"⟩
def dkwX10_told_5 : List UInt8 := [167, 0, 9, 42, 180, 0, 69, 4, 46, 172]
abbrev dktX10_told_5 : List UInt8 := dkwX10_told_5 ++ []
def dkwX10_told_4 : List UInt8 := [160, 0, 10, 42, 180, 0, 239, 167, 0, 24, 27, 16, 7, 160, 0, 12, 42, 180, 0, 69, 3, 46]
abbrev dktX10_told_4 : List UInt8 := dkwX10_told_4 ++ dktX10_told_5
def dkwX10_told_3 : List UInt8 := [167, 0, 7, 42, 180, 0, 226, 172, 27, 8, 160, 0, 10, 42, 180, 0, 236, 167, 0, 37, 27, 16, 6]
abbrev dktX10_told_3 : List UInt8 := dkwX10_told_3 ++ dktX10_told_4
def dkwX10_told_2 : List UInt8 := [167, 0, 31, 27, 5, 160, 0, 10, 42, 180, 0, 220, 167, 0, 19, 27, 6, 160, 0, 10, 42, 180, 0, 223]
abbrev dktX10_told_2 : List UInt8 := dkwX10_told_2 ++ dktX10_told_3
def dkwX10_told_1 : List UInt8 := [8, 162, 0, 55, 27, 154, 0, 10, 42, 180, 0, 214, 167, 0, 43, 27, 4, 160, 0, 10, 42, 180, 0, 217]
abbrev dktX10_told_1 : List UInt8 := dkwX10_told_1 ++ dktX10_told_2
def dkwX10_told_0 : List UInt8 := [42, 3, 181, 0, 3, 42, 27, 3, 16, 8, 184, 1, 108, 4, 4, 182, 1, 19, 154, 0, 5, 3, 172, 27]
abbrev dktX10_told_0 : List UInt8 := dkwX10_told_0 ++ dktX10_told_1
theorem dksX10_told_0 : cX10_told.data.toList.drop 0 = dktX10_told_0 := by decide +kernel
theorem dksX10_told_1 : cX10_told.data.toList.drop 24 = dktX10_told_1 := dk_seg dksX10_told_0 24 rfl rfl
theorem dksX10_told_2 : cX10_told.data.toList.drop 48 = dktX10_told_2 := dk_seg dksX10_told_1 24 rfl rfl
theorem dksX10_told_3 : cX10_told.data.toList.drop 72 = dktX10_told_3 := dk_seg dksX10_told_2 24 rfl rfl
theorem dksX10_told_4 : cX10_told.data.toList.drop 95 = dktX10_told_4 := dk_seg dksX10_told_3 23 rfl rfl
theorem dksX10_told_5 : cX10_told.data.toList.drop 117 = dktX10_told_5 := dk_seg dksX10_told_4 22 rfl rfl
theorem dX10_told_0 : decode cX10_told 0 = .ok (.aload_n 0, 1) := dk_42 (dk_at dksX10_told_0 0 rfl rfl)
theorem dX10_told_1 : decode cX10_told 1 = .ok (.iconst 0, 1) := dk_3 (dk_at dksX10_told_0 1 rfl rfl)
theorem dX10_told_2 : decode cX10_told 2 = .ok (.putfield 3, 3) := dk_181 0 3 (dk_at dksX10_told_0 2 rfl rfl)
theorem dX10_told_5 : decode cX10_told 5 = .ok (.aload_n 0, 1) := dk_42 (dk_at dksX10_told_0 5 rfl rfl)
theorem dX10_told_6 : decode cX10_told 6 = .ok (.iload_n 1, 1) := dk_27 (dk_at dksX10_told_0 6 rfl rfl)
theorem dX10_told_7 : decode cX10_told 7 = .ok (.iconst 0, 1) := dk_3 (dk_at dksX10_told_0 7 rfl rfl)
theorem dX10_told_8 : decode cX10_told 8 = .ok (.bipush 8, 2) := dk_16 8 (dk_at dksX10_told_0 8 rfl rfl)
theorem dX10_told_10 : decode cX10_told 10 = .ok (.invokestatic 364, 3) := dk_184 1 108 (dk_at dksX10_told_0 10 rfl rfl)
theorem dX10_told_13 : decode cX10_told 13 = .ok (.iconst 1, 1) := dk_4 (dk_at dksX10_told_0 13 rfl rfl)
theorem dX10_told_14 : decode cX10_told 14 = .ok (.iconst 1, 1) := dk_4 (dk_at dksX10_told_0 14 rfl rfl)
theorem dX10_told_15 : decode cX10_told 15 = .ok (.invokevirtual 275, 3) := dk_182 1 19 (dk_at dksX10_told_0 15 rfl rfl)
theorem dX10_told_18 : decode cX10_told 18 = .ok (.ifCond .ne 5, 3) := dk_154 0 5 (dk_at dksX10_told_0 18 rfl rfl)
theorem dX10_told_21 : decode cX10_told 21 = .ok (.iconst 0, 1) := dk_3 (dk_at dksX10_told_0 21 rfl rfl)
theorem dX10_told_22 : decode cX10_told 22 = .ok (.ireturn, 1) := dk_172 (dk_at dksX10_told_0 22 rfl rfl)
theorem dX10_told_23 : decode cX10_told 23 = .ok (.iload_n 1, 1) := dk_27 (dk_at dksX10_told_0 23 rfl rfl)
theorem dX10_told_24 : decode cX10_told 24 = .ok (.iconst 5, 1) := dk_8 (dk_at dksX10_told_1 0 rfl rfl)
theorem dX10_told_25 : decode cX10_told 25 = .ok (.if_icmp .ge 55, 3) := dk_162 0 55 (dk_at dksX10_told_1 1 rfl rfl)
theorem dX10_told_28 : decode cX10_told 28 = .ok (.iload_n 1, 1) := dk_27 (dk_at dksX10_told_1 4 rfl rfl)
theorem dX10_told_29 : decode cX10_told 29 = .ok (.ifCond .ne 10, 3) := dk_154 0 10 (dk_at dksX10_told_1 5 rfl rfl)
theorem dX10_told_32 : decode cX10_told 32 = .ok (.aload_n 0, 1) := dk_42 (dk_at dksX10_told_1 8 rfl rfl)
theorem dX10_told_33 : decode cX10_told 33 = .ok (.getfield 214, 3) := dk_180 0 214 (dk_at dksX10_told_1 9 rfl rfl)
theorem dX10_told_36 : decode cX10_told 36 = .ok (.goto 43, 3) := dk_167 0 43 (dk_at dksX10_told_1 12 rfl rfl)
theorem dX10_told_39 : decode cX10_told 39 = .ok (.iload_n 1, 1) := dk_27 (dk_at dksX10_told_1 15 rfl rfl)
theorem dX10_told_40 : decode cX10_told 40 = .ok (.iconst 1, 1) := dk_4 (dk_at dksX10_told_1 16 rfl rfl)
theorem dX10_told_41 : decode cX10_told 41 = .ok (.if_icmp .ne 10, 3) := dk_160 0 10 (dk_at dksX10_told_1 17 rfl rfl)
theorem dX10_told_44 : decode cX10_told 44 = .ok (.aload_n 0, 1) := dk_42 (dk_at dksX10_told_1 20 rfl rfl)
theorem dX10_told_45 : decode cX10_told 45 = .ok (.getfield 217, 3) := dk_180 0 217 (dk_at dksX10_told_1 21 rfl rfl)
theorem dX10_told_48 : decode cX10_told 48 = .ok (.goto 31, 3) := dk_167 0 31 (dk_at dksX10_told_2 0 rfl rfl)
theorem dX10_told_51 : decode cX10_told 51 = .ok (.iload_n 1, 1) := dk_27 (dk_at dksX10_told_2 3 rfl rfl)
theorem dX10_told_52 : decode cX10_told 52 = .ok (.iconst 2, 1) := dk_5 (dk_at dksX10_told_2 4 rfl rfl)
theorem dX10_told_53 : decode cX10_told 53 = .ok (.if_icmp .ne 10, 3) := dk_160 0 10 (dk_at dksX10_told_2 5 rfl rfl)
theorem dX10_told_56 : decode cX10_told 56 = .ok (.aload_n 0, 1) := dk_42 (dk_at dksX10_told_2 8 rfl rfl)
theorem dX10_told_57 : decode cX10_told 57 = .ok (.getfield 220, 3) := dk_180 0 220 (dk_at dksX10_told_2 9 rfl rfl)
theorem dX10_told_60 : decode cX10_told 60 = .ok (.goto 19, 3) := dk_167 0 19 (dk_at dksX10_told_2 12 rfl rfl)
theorem dX10_told_63 : decode cX10_told 63 = .ok (.iload_n 1, 1) := dk_27 (dk_at dksX10_told_2 15 rfl rfl)
theorem dX10_told_64 : decode cX10_told 64 = .ok (.iconst 3, 1) := dk_6 (dk_at dksX10_told_2 16 rfl rfl)
theorem dX10_told_65 : decode cX10_told 65 = .ok (.if_icmp .ne 10, 3) := dk_160 0 10 (dk_at dksX10_told_2 17 rfl rfl)
theorem dX10_told_68 : decode cX10_told 68 = .ok (.aload_n 0, 1) := dk_42 (dk_at dksX10_told_2 20 rfl rfl)
theorem dX10_told_69 : decode cX10_told 69 = .ok (.getfield 223, 3) := dk_180 0 223 (dk_at dksX10_told_2 21 rfl rfl)
theorem dX10_told_72 : decode cX10_told 72 = .ok (.goto 7, 3) := dk_167 0 7 (dk_at dksX10_told_3 0 rfl rfl)
theorem dX10_told_75 : decode cX10_told 75 = .ok (.aload_n 0, 1) := dk_42 (dk_at dksX10_told_3 3 rfl rfl)
theorem dX10_told_76 : decode cX10_told 76 = .ok (.getfield 226, 3) := dk_180 0 226 (dk_at dksX10_told_3 4 rfl rfl)
theorem dX10_told_79 : decode cX10_told 79 = .ok (.ireturn, 1) := dk_172 (dk_at dksX10_told_3 7 rfl rfl)
theorem dX10_told_80 : decode cX10_told 80 = .ok (.iload_n 1, 1) := dk_27 (dk_at dksX10_told_3 8 rfl rfl)
theorem dX10_told_81 : decode cX10_told 81 = .ok (.iconst 5, 1) := dk_8 (dk_at dksX10_told_3 9 rfl rfl)
theorem dX10_told_82 : decode cX10_told 82 = .ok (.if_icmp .ne 10, 3) := dk_160 0 10 (dk_at dksX10_told_3 10 rfl rfl)
theorem dX10_told_85 : decode cX10_told 85 = .ok (.aload_n 0, 1) := dk_42 (dk_at dksX10_told_3 13 rfl rfl)
theorem dX10_told_86 : decode cX10_told 86 = .ok (.getfield 236, 3) := dk_180 0 236 (dk_at dksX10_told_3 14 rfl rfl)
theorem dX10_told_89 : decode cX10_told 89 = .ok (.goto 37, 3) := dk_167 0 37 (dk_at dksX10_told_3 17 rfl rfl)
theorem dX10_told_92 : decode cX10_told 92 = .ok (.iload_n 1, 1) := dk_27 (dk_at dksX10_told_3 20 rfl rfl)
theorem dX10_told_93 : decode cX10_told 93 = .ok (.bipush 6, 2) := dk_16 6 (dk_at dksX10_told_3 21 rfl rfl)
theorem dX10_told_95 : decode cX10_told 95 = .ok (.if_icmp .ne 10, 3) := dk_160 0 10 (dk_at dksX10_told_4 0 rfl rfl)
theorem dX10_told_98 : decode cX10_told 98 = .ok (.aload_n 0, 1) := dk_42 (dk_at dksX10_told_4 3 rfl rfl)
theorem dX10_told_99 : decode cX10_told 99 = .ok (.getfield 239, 3) := dk_180 0 239 (dk_at dksX10_told_4 4 rfl rfl)
theorem dX10_told_102 : decode cX10_told 102 = .ok (.goto 24, 3) := dk_167 0 24 (dk_at dksX10_told_4 7 rfl rfl)
theorem dX10_told_105 : decode cX10_told 105 = .ok (.iload_n 1, 1) := dk_27 (dk_at dksX10_told_4 10 rfl rfl)
theorem dX10_told_106 : decode cX10_told 106 = .ok (.bipush 7, 2) := dk_16 7 (dk_at dksX10_told_4 11 rfl rfl)
theorem dX10_told_108 : decode cX10_told 108 = .ok (.if_icmp .ne 12, 3) := dk_160 0 12 (dk_at dksX10_told_4 13 rfl rfl)
theorem dX10_told_111 : decode cX10_told 111 = .ok (.aload_n 0, 1) := dk_42 (dk_at dksX10_told_4 16 rfl rfl)
theorem dX10_told_112 : decode cX10_told 112 = .ok (.getfield 69, 3) := dk_180 0 69 (dk_at dksX10_told_4 17 rfl rfl)
theorem dX10_told_115 : decode cX10_told 115 = .ok (.iconst 0, 1) := dk_3 (dk_at dksX10_told_4 20 rfl rfl)
theorem dX10_told_116 : decode cX10_told 116 = .ok (.iaload, 1) := dk_46 (dk_at dksX10_told_4 21 rfl rfl)
theorem dX10_told_117 : decode cX10_told 117 = .ok (.goto 9, 3) := dk_167 0 9 (dk_at dksX10_told_5 0 rfl rfl)
theorem dX10_told_120 : decode cX10_told 120 = .ok (.aload_n 0, 1) := dk_42 (dk_at dksX10_told_5 3 rfl rfl)
theorem dX10_told_121 : decode cX10_told 121 = .ok (.getfield 69, 3) := dk_180 0 69 (dk_at dksX10_told_5 4 rfl rfl)
theorem dX10_told_124 : decode cX10_told 124 = .ok (.iconst 1, 1) := dk_4 (dk_at dksX10_told_5 7 rfl rfl)
theorem dX10_told_125 : decode cX10_told 125 = .ok (.iaload, 1) := dk_46 (dk_at dksX10_told_5 8 rfl rfl)
theorem dX10_told_126 : decode cX10_told 126 = .ok (.ireturn, 1) := dk_172 (dk_at dksX10_told_5 9 rfl rfl)
abbrev cX10_within : ByteArray := prog_19_method_3_code
def yX10_within : MethodName := ⟨RX10, "within", "(III)Z"⟩
def dkwX10_within_0 : List UInt8 := [26, 27, 161, 0, 12, 26, 28, 163, 0, 7, 4, 167, 0, 4, 3, 172]
abbrev dktX10_within_0 : List UInt8 := dkwX10_within_0 ++ []
theorem dksX10_within_0 : cX10_within.data.toList.drop 0 = dktX10_within_0 := by decide +kernel
theorem dX10_within_0 : decode cX10_within 0 = .ok (.iload_n 0, 1) := dk_26 (dk_at dksX10_within_0 0 rfl rfl)
theorem dX10_within_1 : decode cX10_within 1 = .ok (.iload_n 1, 1) := dk_27 (dk_at dksX10_within_0 1 rfl rfl)
theorem dX10_within_2 : decode cX10_within 2 = .ok (.if_icmp .lt 12, 3) := dk_161 0 12 (dk_at dksX10_within_0 2 rfl rfl)
theorem dX10_within_5 : decode cX10_within 5 = .ok (.iload_n 0, 1) := dk_26 (dk_at dksX10_within_0 5 rfl rfl)
theorem dX10_within_6 : decode cX10_within 6 = .ok (.iload_n 2, 1) := dk_28 (dk_at dksX10_within_0 6 rfl rfl)
theorem dX10_within_7 : decode cX10_within 7 = .ok (.if_icmp .gt 7, 3) := dk_163 0 7 (dk_at dksX10_within_0 7 rfl rfl)
theorem dX10_within_10 : decode cX10_within 10 = .ok (.iconst 1, 1) := dk_4 (dk_at dksX10_within_0 10 rfl rfl)
theorem dX10_within_11 : decode cX10_within 11 = .ok (.goto 4, 3) := dk_167 0 4 (dk_at dksX10_within_0 11 rfl rfl)
theorem dX10_within_14 : decode cX10_within 14 = .ok (.iconst 0, 1) := dk_3 (dk_at dksX10_within_0 14 rfl rfl)
theorem dX10_within_15 : decode cX10_within 15 = .ok (.ireturn, 1) := dk_172 (dk_at dksX10_within_0 15 rfl rfl)
abbrev cX10_deed : ByteArray := prog_19_method_49_code
def yX10_deed : MethodName := ⟨RX10, "deed", "(II)I"⟩
def dkwX10_deed_1 : List UInt8 := [182, 1, 19, 154, 0, 5, 3, 172, 42, 180, 0, 44, 8, 27, 104, 28, 96, 46, 172]
abbrev dktX10_deed_1 : List UInt8 := dkwX10_deed_1 ++ []
def dkwX10_deed_0 : List UInt8 := [42, 3, 181, 0, 3, 42, 27, 4, 182, 1, 112, 153, 0, 18, 42, 28, 3, 7, 184, 1, 108, 5, 4]
abbrev dktX10_deed_0 : List UInt8 := dkwX10_deed_0 ++ dktX10_deed_1
theorem dksX10_deed_0 : cX10_deed.data.toList.drop 0 = dktX10_deed_0 := by decide +kernel
theorem dksX10_deed_1 : cX10_deed.data.toList.drop 23 = dktX10_deed_1 := dk_seg dksX10_deed_0 23 rfl rfl
theorem dX10_deed_0 : decode cX10_deed 0 = .ok (.aload_n 0, 1) := dk_42 (dk_at dksX10_deed_0 0 rfl rfl)
theorem dX10_deed_1 : decode cX10_deed 1 = .ok (.iconst 0, 1) := dk_3 (dk_at dksX10_deed_0 1 rfl rfl)
theorem dX10_deed_2 : decode cX10_deed 2 = .ok (.putfield 3, 3) := dk_181 0 3 (dk_at dksX10_deed_0 2 rfl rfl)
theorem dX10_deed_5 : decode cX10_deed 5 = .ok (.aload_n 0, 1) := dk_42 (dk_at dksX10_deed_0 5 rfl rfl)
theorem dX10_deed_6 : decode cX10_deed 6 = .ok (.iload_n 1, 1) := dk_27 (dk_at dksX10_deed_0 6 rfl rfl)
theorem dX10_deed_7 : decode cX10_deed 7 = .ok (.iconst 1, 1) := dk_4 (dk_at dksX10_deed_0 7 rfl rfl)
theorem dX10_deed_8 : decode cX10_deed 8 = .ok (.invokevirtual 368, 3) := dk_182 1 112 (dk_at dksX10_deed_0 8 rfl rfl)
theorem dX10_deed_11 : decode cX10_deed 11 = .ok (.ifCond .eq 18, 3) := dk_153 0 18 (dk_at dksX10_deed_0 11 rfl rfl)
theorem dX10_deed_14 : decode cX10_deed 14 = .ok (.aload_n 0, 1) := dk_42 (dk_at dksX10_deed_0 14 rfl rfl)
theorem dX10_deed_15 : decode cX10_deed 15 = .ok (.iload_n 2, 1) := dk_28 (dk_at dksX10_deed_0 15 rfl rfl)
theorem dX10_deed_16 : decode cX10_deed 16 = .ok (.iconst 0, 1) := dk_3 (dk_at dksX10_deed_0 16 rfl rfl)
theorem dX10_deed_17 : decode cX10_deed 17 = .ok (.iconst 4, 1) := dk_7 (dk_at dksX10_deed_0 17 rfl rfl)
theorem dX10_deed_18 : decode cX10_deed 18 = .ok (.invokestatic 364, 3) := dk_184 1 108 (dk_at dksX10_deed_0 18 rfl rfl)
theorem dX10_deed_21 : decode cX10_deed 21 = .ok (.iconst 2, 1) := dk_5 (dk_at dksX10_deed_0 21 rfl rfl)
theorem dX10_deed_22 : decode cX10_deed 22 = .ok (.iconst 1, 1) := dk_4 (dk_at dksX10_deed_0 22 rfl rfl)
theorem dX10_deed_23 : decode cX10_deed 23 = .ok (.invokevirtual 275, 3) := dk_182 1 19 (dk_at dksX10_deed_1 0 rfl rfl)
theorem dX10_deed_26 : decode cX10_deed 26 = .ok (.ifCond .ne 5, 3) := dk_154 0 5 (dk_at dksX10_deed_1 3 rfl rfl)
theorem dX10_deed_29 : decode cX10_deed 29 = .ok (.iconst 0, 1) := dk_3 (dk_at dksX10_deed_1 6 rfl rfl)
theorem dX10_deed_30 : decode cX10_deed 30 = .ok (.ireturn, 1) := dk_172 (dk_at dksX10_deed_1 7 rfl rfl)
theorem dX10_deed_31 : decode cX10_deed 31 = .ok (.aload_n 0, 1) := dk_42 (dk_at dksX10_deed_1 8 rfl rfl)
theorem dX10_deed_32 : decode cX10_deed 32 = .ok (.getfield 44, 3) := dk_180 0 44 (dk_at dksX10_deed_1 9 rfl rfl)
theorem dX10_deed_35 : decode cX10_deed 35 = .ok (.iconst 5, 1) := dk_8 (dk_at dksX10_deed_1 12 rfl rfl)
theorem dX10_deed_36 : decode cX10_deed 36 = .ok (.iload_n 1, 1) := dk_27 (dk_at dksX10_deed_1 13 rfl rfl)
theorem dX10_deed_37 : decode cX10_deed 37 = .ok (.imul, 1) := dk_104 (dk_at dksX10_deed_1 14 rfl rfl)
theorem dX10_deed_38 : decode cX10_deed 38 = .ok (.iload_n 2, 1) := dk_28 (dk_at dksX10_deed_1 15 rfl rfl)
theorem dX10_deed_39 : decode cX10_deed 39 = .ok (.iadd, 1) := dk_96 (dk_at dksX10_deed_1 16 rfl rfl)
theorem dX10_deed_40 : decode cX10_deed 40 = .ok (.iaload, 1) := dk_46 (dk_at dksX10_deed_1 17 rfl rfl)
theorem dX10_deed_41 : decode cX10_deed 41 = .ok (.ireturn, 1) := dk_172 (dk_at dksX10_deed_1 18 rfl rfl)
abbrev cX10_isDeed : ByteArray := prog_19_method_45_code
def yX10_isDeed : MethodName := ⟨RX10, "isDeed", "(II)Z"⟩
def dkwX10_isDeed_0 : List UInt8 := [42, 27, 3, 42, 180, 0, 217, 4, 100, 184, 1, 108, 28, 3, 182, 1, 19, 172]
abbrev dktX10_isDeed_0 : List UInt8 := dkwX10_isDeed_0 ++ []
theorem dksX10_isDeed_0 : cX10_isDeed.data.toList.drop 0 = dktX10_isDeed_0 := by decide +kernel
theorem dX10_isDeed_0 : decode cX10_isDeed 0 = .ok (.aload_n 0, 1) := dk_42 (dk_at dksX10_isDeed_0 0 rfl rfl)
theorem dX10_isDeed_1 : decode cX10_isDeed 1 = .ok (.iload_n 1, 1) := dk_27 (dk_at dksX10_isDeed_0 1 rfl rfl)
theorem dX10_isDeed_2 : decode cX10_isDeed 2 = .ok (.iconst 0, 1) := dk_3 (dk_at dksX10_isDeed_0 2 rfl rfl)
theorem dX10_isDeed_3 : decode cX10_isDeed 3 = .ok (.aload_n 0, 1) := dk_42 (dk_at dksX10_isDeed_0 3 rfl rfl)
theorem dX10_isDeed_4 : decode cX10_isDeed 4 = .ok (.getfield 217, 3) := dk_180 0 217 (dk_at dksX10_isDeed_0 4 rfl rfl)
theorem dX10_isDeed_7 : decode cX10_isDeed 7 = .ok (.iconst 1, 1) := dk_4 (dk_at dksX10_isDeed_0 7 rfl rfl)
theorem dX10_isDeed_8 : decode cX10_isDeed 8 = .ok (.isub, 1) := dk_100 (dk_at dksX10_isDeed_0 8 rfl rfl)
theorem dX10_isDeed_9 : decode cX10_isDeed 9 = .ok (.invokestatic 364, 3) := dk_184 1 108 (dk_at dksX10_isDeed_0 9 rfl rfl)
theorem dX10_isDeed_12 : decode cX10_isDeed 12 = .ok (.iload_n 2, 1) := dk_28 (dk_at dksX10_isDeed_0 12 rfl rfl)
theorem dX10_isDeed_13 : decode cX10_isDeed 13 = .ok (.iconst 0, 1) := dk_3 (dk_at dksX10_isDeed_0 13 rfl rfl)
theorem dX10_isDeed_14 : decode cX10_isDeed 14 = .ok (.invokevirtual 275, 3) := dk_182 1 19 (dk_at dksX10_isDeed_0 14 rfl rfl)
theorem dX10_isDeed_17 : decode cX10_isDeed 17 = .ok (.ireturn, 1) := dk_172 (dk_at dksX10_isDeed_0 17 rfl rfl)
abbrev cX10_strong : ByteArray := prog_19_method_50_code
def yX10_strong : MethodName := ⟨RX10, "strong", "(I)I"⟩
def dkwX10_strong_0 : List UInt8 := [42, 3, 181, 0, 3, 42, 27, 4, 182, 1, 116, 154, 0, 5, 3, 172, 42, 180, 0, 41, 27, 46, 172]
abbrev dktX10_strong_0 : List UInt8 := dkwX10_strong_0 ++ []
theorem dksX10_strong_0 : cX10_strong.data.toList.drop 0 = dktX10_strong_0 := by decide +kernel
theorem dX10_strong_0 : decode cX10_strong 0 = .ok (.aload_n 0, 1) := dk_42 (dk_at dksX10_strong_0 0 rfl rfl)
theorem dX10_strong_1 : decode cX10_strong 1 = .ok (.iconst 0, 1) := dk_3 (dk_at dksX10_strong_0 1 rfl rfl)
theorem dX10_strong_2 : decode cX10_strong 2 = .ok (.putfield 3, 3) := dk_181 0 3 (dk_at dksX10_strong_0 2 rfl rfl)
theorem dX10_strong_5 : decode cX10_strong 5 = .ok (.aload_n 0, 1) := dk_42 (dk_at dksX10_strong_0 5 rfl rfl)
theorem dX10_strong_6 : decode cX10_strong 6 = .ok (.iload_n 1, 1) := dk_27 (dk_at dksX10_strong_0 6 rfl rfl)
theorem dX10_strong_7 : decode cX10_strong 7 = .ok (.iconst 1, 1) := dk_4 (dk_at dksX10_strong_0 7 rfl rfl)
theorem dX10_strong_8 : decode cX10_strong 8 = .ok (.invokevirtual 372, 3) := dk_182 1 116 (dk_at dksX10_strong_0 8 rfl rfl)
theorem dX10_strong_11 : decode cX10_strong 11 = .ok (.ifCond .ne 5, 3) := dk_154 0 5 (dk_at dksX10_strong_0 11 rfl rfl)
theorem dX10_strong_14 : decode cX10_strong 14 = .ok (.iconst 0, 1) := dk_3 (dk_at dksX10_strong_0 14 rfl rfl)
theorem dX10_strong_15 : decode cX10_strong 15 = .ok (.ireturn, 1) := dk_172 (dk_at dksX10_strong_0 15 rfl rfl)
theorem dX10_strong_16 : decode cX10_strong 16 = .ok (.aload_n 0, 1) := dk_42 (dk_at dksX10_strong_0 16 rfl rfl)
theorem dX10_strong_17 : decode cX10_strong 17 = .ok (.getfield 41, 3) := dk_180 0 41 (dk_at dksX10_strong_0 17 rfl rfl)
theorem dX10_strong_20 : decode cX10_strong 20 = .ok (.iload_n 1, 1) := dk_27 (dk_at dksX10_strong_0 20 rfl rfl)
theorem dX10_strong_21 : decode cX10_strong 21 = .ok (.iaload, 1) := dk_46 (dk_at dksX10_strong_0 21 rfl rfl)
theorem dX10_strong_22 : decode cX10_strong 22 = .ok (.ireturn, 1) := dk_172 (dk_at dksX10_strong_0 22 rfl rfl)
abbrev cX10_isPerson : ByteArray := prog_19_method_46_code
def yX10_isPerson : MethodName := ⟨RX10, "isPerson", "(II)Z"⟩
def dkwX10_isPerson_0 : List UInt8 := [42, 27, 3, 42, 180, 0, 214, 4, 100, 184, 1, 108, 28, 3, 182, 1, 19, 172]
abbrev dktX10_isPerson_0 : List UInt8 := dkwX10_isPerson_0 ++ []
theorem dksX10_isPerson_0 : cX10_isPerson.data.toList.drop 0 = dktX10_isPerson_0 := by decide +kernel
theorem dX10_isPerson_0 : decode cX10_isPerson 0 = .ok (.aload_n 0, 1) := dk_42 (dk_at dksX10_isPerson_0 0 rfl rfl)
theorem dX10_isPerson_1 : decode cX10_isPerson 1 = .ok (.iload_n 1, 1) := dk_27 (dk_at dksX10_isPerson_0 1 rfl rfl)
theorem dX10_isPerson_2 : decode cX10_isPerson 2 = .ok (.iconst 0, 1) := dk_3 (dk_at dksX10_isPerson_0 2 rfl rfl)
theorem dX10_isPerson_3 : decode cX10_isPerson 3 = .ok (.aload_n 0, 1) := dk_42 (dk_at dksX10_isPerson_0 3 rfl rfl)
theorem dX10_isPerson_4 : decode cX10_isPerson 4 = .ok (.getfield 214, 3) := dk_180 0 214 (dk_at dksX10_isPerson_0 4 rfl rfl)
theorem dX10_isPerson_7 : decode cX10_isPerson 7 = .ok (.iconst 1, 1) := dk_4 (dk_at dksX10_isPerson_0 7 rfl rfl)
theorem dX10_isPerson_8 : decode cX10_isPerson 8 = .ok (.isub, 1) := dk_100 (dk_at dksX10_isPerson_0 8 rfl rfl)
theorem dX10_isPerson_9 : decode cX10_isPerson 9 = .ok (.invokestatic 364, 3) := dk_184 1 108 (dk_at dksX10_isPerson_0 9 rfl rfl)
theorem dX10_isPerson_12 : decode cX10_isPerson 12 = .ok (.iload_n 2, 1) := dk_28 (dk_at dksX10_isPerson_0 12 rfl rfl)
theorem dX10_isPerson_13 : decode cX10_isPerson 13 = .ok (.iconst 0, 1) := dk_3 (dk_at dksX10_isPerson_0 13 rfl rfl)
theorem dX10_isPerson_14 : decode cX10_isPerson 14 = .ok (.invokevirtual 275, 3) := dk_182 1 19 (dk_at dksX10_isPerson_0 14 rfl rfl)
theorem dX10_isPerson_17 : decode cX10_isPerson 17 = .ok (.ireturn, 1) := dk_172 (dk_at dksX10_isPerson_0 17 rfl rfl)
abbrev cX10_bears : ByteArray := prog_19_method_51_code
def yX10_bears : MethodName := ⟨RX10, "bears", "(I)I"⟩
def dkwX10_bears_1 : List UInt8 := [180, 0, 47, 27, 46, 172]
abbrev dktX10_bears_1 : List UInt8 := dkwX10_bears_1 ++ []
def dkwX10_bears_0 : List UInt8 := [42, 3, 181, 0, 3, 42, 27, 3, 16, 59, 184, 1, 108, 4, 4, 182, 1, 19, 154, 0, 5, 3, 172, 42]
abbrev dktX10_bears_0 : List UInt8 := dkwX10_bears_0 ++ dktX10_bears_1
theorem dksX10_bears_0 : cX10_bears.data.toList.drop 0 = dktX10_bears_0 := by decide +kernel
theorem dksX10_bears_1 : cX10_bears.data.toList.drop 24 = dktX10_bears_1 := dk_seg dksX10_bears_0 24 rfl rfl
theorem dX10_bears_0 : decode cX10_bears 0 = .ok (.aload_n 0, 1) := dk_42 (dk_at dksX10_bears_0 0 rfl rfl)
theorem dX10_bears_1 : decode cX10_bears 1 = .ok (.iconst 0, 1) := dk_3 (dk_at dksX10_bears_0 1 rfl rfl)
theorem dX10_bears_2 : decode cX10_bears 2 = .ok (.putfield 3, 3) := dk_181 0 3 (dk_at dksX10_bears_0 2 rfl rfl)
theorem dX10_bears_5 : decode cX10_bears 5 = .ok (.aload_n 0, 1) := dk_42 (dk_at dksX10_bears_0 5 rfl rfl)
theorem dX10_bears_6 : decode cX10_bears 6 = .ok (.iload_n 1, 1) := dk_27 (dk_at dksX10_bears_0 6 rfl rfl)
theorem dX10_bears_7 : decode cX10_bears 7 = .ok (.iconst 0, 1) := dk_3 (dk_at dksX10_bears_0 7 rfl rfl)
theorem dX10_bears_8 : decode cX10_bears 8 = .ok (.bipush 59, 2) := dk_16 59 (dk_at dksX10_bears_0 8 rfl rfl)
theorem dX10_bears_10 : decode cX10_bears 10 = .ok (.invokestatic 364, 3) := dk_184 1 108 (dk_at dksX10_bears_0 10 rfl rfl)
theorem dX10_bears_13 : decode cX10_bears 13 = .ok (.iconst 1, 1) := dk_4 (dk_at dksX10_bears_0 13 rfl rfl)
theorem dX10_bears_14 : decode cX10_bears 14 = .ok (.iconst 1, 1) := dk_4 (dk_at dksX10_bears_0 14 rfl rfl)
theorem dX10_bears_15 : decode cX10_bears 15 = .ok (.invokevirtual 275, 3) := dk_182 1 19 (dk_at dksX10_bears_0 15 rfl rfl)
theorem dX10_bears_18 : decode cX10_bears 18 = .ok (.ifCond .ne 5, 3) := dk_154 0 5 (dk_at dksX10_bears_0 18 rfl rfl)
theorem dX10_bears_21 : decode cX10_bears 21 = .ok (.iconst 0, 1) := dk_3 (dk_at dksX10_bears_0 21 rfl rfl)
theorem dX10_bears_22 : decode cX10_bears 22 = .ok (.ireturn, 1) := dk_172 (dk_at dksX10_bears_0 22 rfl rfl)
theorem dX10_bears_23 : decode cX10_bears 23 = .ok (.aload_n 0, 1) := dk_42 (dk_at dksX10_bears_0 23 rfl rfl)
theorem dX10_bears_24 : decode cX10_bears 24 = .ok (.getfield 47, 3) := dk_180 0 47 (dk_at dksX10_bears_1 0 rfl rfl)
theorem dX10_bears_27 : decode cX10_bears 27 = .ok (.iload_n 1, 1) := dk_27 (dk_at dksX10_bears_1 3 rfl rfl)
theorem dX10_bears_28 : decode cX10_bears 28 = .ok (.iaload, 1) := dk_46 (dk_at dksX10_bears_1 4 rfl rfl)
theorem dX10_bears_29 : decode cX10_bears 29 = .ok (.ireturn, 1) := dk_172 (dk_at dksX10_bears_1 5 rfl rfl)
abbrev cX10_rains : ByteArray := prog_19_method_53_code
def yX10_rains : MethodName := ⟨RX10, "rains", "(I)Z"⟩
def dkwX10_rains_1 : List UInt8 := [42, 180, 0, 63, 27, 51, 172]
abbrev dktX10_rains_1 : List UInt8 := dkwX10_rains_1 ++ []
def dkwX10_rains_0 : List UInt8 := [42, 3, 181, 0, 3, 42, 27, 3, 17, 0, 240, 184, 1, 108, 4, 4, 182, 1, 19, 154, 0, 5, 3, 172]
abbrev dktX10_rains_0 : List UInt8 := dkwX10_rains_0 ++ dktX10_rains_1
theorem dksX10_rains_0 : cX10_rains.data.toList.drop 0 = dktX10_rains_0 := by decide +kernel
theorem dksX10_rains_1 : cX10_rains.data.toList.drop 24 = dktX10_rains_1 := dk_seg dksX10_rains_0 24 rfl rfl
theorem dX10_rains_0 : decode cX10_rains 0 = .ok (.aload_n 0, 1) := dk_42 (dk_at dksX10_rains_0 0 rfl rfl)
theorem dX10_rains_1 : decode cX10_rains 1 = .ok (.iconst 0, 1) := dk_3 (dk_at dksX10_rains_0 1 rfl rfl)
theorem dX10_rains_2 : decode cX10_rains 2 = .ok (.putfield 3, 3) := dk_181 0 3 (dk_at dksX10_rains_0 2 rfl rfl)
theorem dX10_rains_5 : decode cX10_rains 5 = .ok (.aload_n 0, 1) := dk_42 (dk_at dksX10_rains_0 5 rfl rfl)
theorem dX10_rains_6 : decode cX10_rains 6 = .ok (.iload_n 1, 1) := dk_27 (dk_at dksX10_rains_0 6 rfl rfl)
theorem dX10_rains_7 : decode cX10_rains 7 = .ok (.iconst 0, 1) := dk_3 (dk_at dksX10_rains_0 7 rfl rfl)
theorem dX10_rains_8 : decode cX10_rains 8 = .ok (.sipush 240, 3) := dk_17 0 240 (dk_at dksX10_rains_0 8 rfl rfl)
theorem dX10_rains_11 : decode cX10_rains 11 = .ok (.invokestatic 364, 3) := dk_184 1 108 (dk_at dksX10_rains_0 11 rfl rfl)
theorem dX10_rains_14 : decode cX10_rains 14 = .ok (.iconst 1, 1) := dk_4 (dk_at dksX10_rains_0 14 rfl rfl)
theorem dX10_rains_15 : decode cX10_rains 15 = .ok (.iconst 1, 1) := dk_4 (dk_at dksX10_rains_0 15 rfl rfl)
theorem dX10_rains_16 : decode cX10_rains 16 = .ok (.invokevirtual 275, 3) := dk_182 1 19 (dk_at dksX10_rains_0 16 rfl rfl)
theorem dX10_rains_19 : decode cX10_rains 19 = .ok (.ifCond .ne 5, 3) := dk_154 0 5 (dk_at dksX10_rains_0 19 rfl rfl)
theorem dX10_rains_22 : decode cX10_rains 22 = .ok (.iconst 0, 1) := dk_3 (dk_at dksX10_rains_0 22 rfl rfl)
theorem dX10_rains_23 : decode cX10_rains 23 = .ok (.ireturn, 1) := dk_172 (dk_at dksX10_rains_0 23 rfl rfl)
theorem dX10_rains_24 : decode cX10_rains 24 = .ok (.aload_n 0, 1) := dk_42 (dk_at dksX10_rains_1 0 rfl rfl)
theorem dX10_rains_25 : decode cX10_rains 25 = .ok (.getfield 63, 3) := dk_180 0 63 (dk_at dksX10_rains_1 1 rfl rfl)
theorem dX10_rains_28 : decode cX10_rains 28 = .ok (.iload_n 1, 1) := dk_27 (dk_at dksX10_rains_1 4 rfl rfl)
theorem dX10_rains_29 : decode cX10_rains 29 = .ok (.baload, 1) := dk_51 (dk_at dksX10_rains_1 5 rfl rfl)
theorem dX10_rains_30 : decode cX10_rains 30 = .ok (.ireturn, 1) := dk_172 (dk_at dksX10_rains_1 6 rfl rfl)
abbrev cX10_would : ByteArray := prog_19_method_54_code
def yX10_would : MethodName := ⟨RX10, "would", "(IIIIII)I"⟩
def dkwX10_would_5 : List UInt8 := [180, 0, 87, 7, 21, 5, 79, 42, 180, 0, 87, 8, 21, 6, 79, 42, 182, 1, 119, 172]
abbrev dktX10_would_5 : List UInt8 := dkwX10_would_5 ++ []
def dkwX10_would_4 : List UInt8 := [180, 0, 87, 4, 28, 79, 42, 180, 0, 87, 5, 29, 79, 42, 180, 0, 87, 6, 21, 4, 79, 42]
abbrev dktX10_would_4 : List UInt8 := dkwX10_would_4 ++ dktX10_would_5
def dkwX10_would_3 : List UInt8 := [167, 0, 4, 3, 4, 4, 182, 1, 19, 154, 0, 5, 3, 172, 42, 180, 0, 87, 3, 27, 79, 42]
abbrev dktX10_would_3 : List UInt8 := dkwX10_would_3 ++ dktX10_would_4
def dkwX10_would_2 : List UInt8 := [21, 5, 3, 17, 0, 240, 184, 1, 108, 153, 0, 17, 21, 6, 3, 4, 184, 1, 108, 153, 0, 7, 4]
abbrev dktX10_would_2 : List UInt8 := dkwX10_would_2 ++ dktX10_would_3
def dkwX10_would_1 : List UInt8 := [153, 0, 49, 29, 3, 16, 18, 184, 1, 108, 153, 0, 39, 21, 4, 3, 4, 184, 1, 108, 153, 0, 29]
abbrev dktX10_would_1 : List UInt8 := dkwX10_would_1 ++ dktX10_would_2
def dkwX10_would_0 : List UInt8 := [42, 3, 181, 0, 3, 42, 27, 4, 16, 30, 184, 1, 108, 153, 0, 58, 28, 4, 5, 184, 1, 108]
abbrev dktX10_would_0 : List UInt8 := dkwX10_would_0 ++ dktX10_would_1
theorem dksX10_would_0 : cX10_would.data.toList.drop 0 = dktX10_would_0 := by decide +kernel
theorem dksX10_would_1 : cX10_would.data.toList.drop 22 = dktX10_would_1 := dk_seg dksX10_would_0 22 rfl rfl
theorem dksX10_would_2 : cX10_would.data.toList.drop 45 = dktX10_would_2 := dk_seg dksX10_would_1 23 rfl rfl
theorem dksX10_would_3 : cX10_would.data.toList.drop 68 = dktX10_would_3 := dk_seg dksX10_would_2 23 rfl rfl
theorem dksX10_would_4 : cX10_would.data.toList.drop 90 = dktX10_would_4 := dk_seg dksX10_would_3 22 rfl rfl
theorem dksX10_would_5 : cX10_would.data.toList.drop 112 = dktX10_would_5 := dk_seg dksX10_would_4 22 rfl rfl
theorem dX10_would_0 : decode cX10_would 0 = .ok (.aload_n 0, 1) := dk_42 (dk_at dksX10_would_0 0 rfl rfl)
theorem dX10_would_1 : decode cX10_would 1 = .ok (.iconst 0, 1) := dk_3 (dk_at dksX10_would_0 1 rfl rfl)
theorem dX10_would_2 : decode cX10_would 2 = .ok (.putfield 3, 3) := dk_181 0 3 (dk_at dksX10_would_0 2 rfl rfl)
theorem dX10_would_5 : decode cX10_would 5 = .ok (.aload_n 0, 1) := dk_42 (dk_at dksX10_would_0 5 rfl rfl)
theorem dX10_would_6 : decode cX10_would 6 = .ok (.iload_n 1, 1) := dk_27 (dk_at dksX10_would_0 6 rfl rfl)
theorem dX10_would_7 : decode cX10_would 7 = .ok (.iconst 1, 1) := dk_4 (dk_at dksX10_would_0 7 rfl rfl)
theorem dX10_would_8 : decode cX10_would 8 = .ok (.bipush 30, 2) := dk_16 30 (dk_at dksX10_would_0 8 rfl rfl)
theorem dX10_would_10 : decode cX10_would 10 = .ok (.invokestatic 364, 3) := dk_184 1 108 (dk_at dksX10_would_0 10 rfl rfl)
theorem dX10_would_13 : decode cX10_would 13 = .ok (.ifCond .eq 58, 3) := dk_153 0 58 (dk_at dksX10_would_0 13 rfl rfl)
theorem dX10_would_16 : decode cX10_would 16 = .ok (.iload_n 2, 1) := dk_28 (dk_at dksX10_would_0 16 rfl rfl)
theorem dX10_would_17 : decode cX10_would 17 = .ok (.iconst 1, 1) := dk_4 (dk_at dksX10_would_0 17 rfl rfl)
theorem dX10_would_18 : decode cX10_would 18 = .ok (.iconst 2, 1) := dk_5 (dk_at dksX10_would_0 18 rfl rfl)
theorem dX10_would_19 : decode cX10_would 19 = .ok (.invokestatic 364, 3) := dk_184 1 108 (dk_at dksX10_would_0 19 rfl rfl)
theorem dX10_would_22 : decode cX10_would 22 = .ok (.ifCond .eq 49, 3) := dk_153 0 49 (dk_at dksX10_would_1 0 rfl rfl)
theorem dX10_would_25 : decode cX10_would 25 = .ok (.iload_n 3, 1) := dk_29 (dk_at dksX10_would_1 3 rfl rfl)
theorem dX10_would_26 : decode cX10_would 26 = .ok (.iconst 0, 1) := dk_3 (dk_at dksX10_would_1 4 rfl rfl)
theorem dX10_would_27 : decode cX10_would 27 = .ok (.bipush 18, 2) := dk_16 18 (dk_at dksX10_would_1 5 rfl rfl)
theorem dX10_would_29 : decode cX10_would 29 = .ok (.invokestatic 364, 3) := dk_184 1 108 (dk_at dksX10_would_1 7 rfl rfl)
theorem dX10_would_32 : decode cX10_would 32 = .ok (.ifCond .eq 39, 3) := dk_153 0 39 (dk_at dksX10_would_1 10 rfl rfl)
theorem dX10_would_35 : decode cX10_would 35 = .ok (.iload 4, 2) := dk_21 4 (dk_at dksX10_would_1 13 rfl rfl)
theorem dX10_would_37 : decode cX10_would 37 = .ok (.iconst 0, 1) := dk_3 (dk_at dksX10_would_1 15 rfl rfl)
theorem dX10_would_38 : decode cX10_would 38 = .ok (.iconst 1, 1) := dk_4 (dk_at dksX10_would_1 16 rfl rfl)
theorem dX10_would_39 : decode cX10_would 39 = .ok (.invokestatic 364, 3) := dk_184 1 108 (dk_at dksX10_would_1 17 rfl rfl)
theorem dX10_would_42 : decode cX10_would 42 = .ok (.ifCond .eq 29, 3) := dk_153 0 29 (dk_at dksX10_would_1 20 rfl rfl)
theorem dX10_would_45 : decode cX10_would 45 = .ok (.iload 5, 2) := dk_21 5 (dk_at dksX10_would_2 0 rfl rfl)
theorem dX10_would_47 : decode cX10_would 47 = .ok (.iconst 0, 1) := dk_3 (dk_at dksX10_would_2 2 rfl rfl)
theorem dX10_would_48 : decode cX10_would 48 = .ok (.sipush 240, 3) := dk_17 0 240 (dk_at dksX10_would_2 3 rfl rfl)
theorem dX10_would_51 : decode cX10_would 51 = .ok (.invokestatic 364, 3) := dk_184 1 108 (dk_at dksX10_would_2 6 rfl rfl)
theorem dX10_would_54 : decode cX10_would 54 = .ok (.ifCond .eq 17, 3) := dk_153 0 17 (dk_at dksX10_would_2 9 rfl rfl)
theorem dX10_would_57 : decode cX10_would 57 = .ok (.iload 6, 2) := dk_21 6 (dk_at dksX10_would_2 12 rfl rfl)
theorem dX10_would_59 : decode cX10_would 59 = .ok (.iconst 0, 1) := dk_3 (dk_at dksX10_would_2 14 rfl rfl)
theorem dX10_would_60 : decode cX10_would 60 = .ok (.iconst 1, 1) := dk_4 (dk_at dksX10_would_2 15 rfl rfl)
theorem dX10_would_61 : decode cX10_would 61 = .ok (.invokestatic 364, 3) := dk_184 1 108 (dk_at dksX10_would_2 16 rfl rfl)
theorem dX10_would_64 : decode cX10_would 64 = .ok (.ifCond .eq 7, 3) := dk_153 0 7 (dk_at dksX10_would_2 19 rfl rfl)
theorem dX10_would_67 : decode cX10_would 67 = .ok (.iconst 1, 1) := dk_4 (dk_at dksX10_would_2 22 rfl rfl)
theorem dX10_would_68 : decode cX10_would 68 = .ok (.goto 4, 3) := dk_167 0 4 (dk_at dksX10_would_3 0 rfl rfl)
theorem dX10_would_71 : decode cX10_would 71 = .ok (.iconst 0, 1) := dk_3 (dk_at dksX10_would_3 3 rfl rfl)
theorem dX10_would_72 : decode cX10_would 72 = .ok (.iconst 1, 1) := dk_4 (dk_at dksX10_would_3 4 rfl rfl)
theorem dX10_would_73 : decode cX10_would 73 = .ok (.iconst 1, 1) := dk_4 (dk_at dksX10_would_3 5 rfl rfl)
theorem dX10_would_74 : decode cX10_would 74 = .ok (.invokevirtual 275, 3) := dk_182 1 19 (dk_at dksX10_would_3 6 rfl rfl)
theorem dX10_would_77 : decode cX10_would 77 = .ok (.ifCond .ne 5, 3) := dk_154 0 5 (dk_at dksX10_would_3 9 rfl rfl)
theorem dX10_would_80 : decode cX10_would 80 = .ok (.iconst 0, 1) := dk_3 (dk_at dksX10_would_3 12 rfl rfl)
theorem dX10_would_81 : decode cX10_would 81 = .ok (.ireturn, 1) := dk_172 (dk_at dksX10_would_3 13 rfl rfl)
theorem dX10_would_82 : decode cX10_would 82 = .ok (.aload_n 0, 1) := dk_42 (dk_at dksX10_would_3 14 rfl rfl)
theorem dX10_would_83 : decode cX10_would 83 = .ok (.getfield 87, 3) := dk_180 0 87 (dk_at dksX10_would_3 15 rfl rfl)
theorem dX10_would_86 : decode cX10_would 86 = .ok (.iconst 0, 1) := dk_3 (dk_at dksX10_would_3 18 rfl rfl)
theorem dX10_would_87 : decode cX10_would 87 = .ok (.iload_n 1, 1) := dk_27 (dk_at dksX10_would_3 19 rfl rfl)
theorem dX10_would_88 : decode cX10_would 88 = .ok (.iastore, 1) := dk_79 (dk_at dksX10_would_3 20 rfl rfl)
theorem dX10_would_89 : decode cX10_would 89 = .ok (.aload_n 0, 1) := dk_42 (dk_at dksX10_would_3 21 rfl rfl)
theorem dX10_would_90 : decode cX10_would 90 = .ok (.getfield 87, 3) := dk_180 0 87 (dk_at dksX10_would_4 0 rfl rfl)
theorem dX10_would_93 : decode cX10_would 93 = .ok (.iconst 1, 1) := dk_4 (dk_at dksX10_would_4 3 rfl rfl)
theorem dX10_would_94 : decode cX10_would 94 = .ok (.iload_n 2, 1) := dk_28 (dk_at dksX10_would_4 4 rfl rfl)
theorem dX10_would_95 : decode cX10_would 95 = .ok (.iastore, 1) := dk_79 (dk_at dksX10_would_4 5 rfl rfl)
theorem dX10_would_96 : decode cX10_would 96 = .ok (.aload_n 0, 1) := dk_42 (dk_at dksX10_would_4 6 rfl rfl)
theorem dX10_would_97 : decode cX10_would 97 = .ok (.getfield 87, 3) := dk_180 0 87 (dk_at dksX10_would_4 7 rfl rfl)
theorem dX10_would_100 : decode cX10_would 100 = .ok (.iconst 2, 1) := dk_5 (dk_at dksX10_would_4 10 rfl rfl)
theorem dX10_would_101 : decode cX10_would 101 = .ok (.iload_n 3, 1) := dk_29 (dk_at dksX10_would_4 11 rfl rfl)
theorem dX10_would_102 : decode cX10_would 102 = .ok (.iastore, 1) := dk_79 (dk_at dksX10_would_4 12 rfl rfl)
theorem dX10_would_103 : decode cX10_would 103 = .ok (.aload_n 0, 1) := dk_42 (dk_at dksX10_would_4 13 rfl rfl)
theorem dX10_would_104 : decode cX10_would 104 = .ok (.getfield 87, 3) := dk_180 0 87 (dk_at dksX10_would_4 14 rfl rfl)
theorem dX10_would_107 : decode cX10_would 107 = .ok (.iconst 3, 1) := dk_6 (dk_at dksX10_would_4 17 rfl rfl)
theorem dX10_would_108 : decode cX10_would 108 = .ok (.iload 4, 2) := dk_21 4 (dk_at dksX10_would_4 18 rfl rfl)
theorem dX10_would_110 : decode cX10_would 110 = .ok (.iastore, 1) := dk_79 (dk_at dksX10_would_4 20 rfl rfl)
theorem dX10_would_111 : decode cX10_would 111 = .ok (.aload_n 0, 1) := dk_42 (dk_at dksX10_would_4 21 rfl rfl)
theorem dX10_would_112 : decode cX10_would 112 = .ok (.getfield 87, 3) := dk_180 0 87 (dk_at dksX10_would_5 0 rfl rfl)
theorem dX10_would_115 : decode cX10_would 115 = .ok (.iconst 4, 1) := dk_7 (dk_at dksX10_would_5 3 rfl rfl)
theorem dX10_would_116 : decode cX10_would 116 = .ok (.iload 5, 2) := dk_21 5 (dk_at dksX10_would_5 4 rfl rfl)
theorem dX10_would_118 : decode cX10_would 118 = .ok (.iastore, 1) := dk_79 (dk_at dksX10_would_5 6 rfl rfl)
theorem dX10_would_119 : decode cX10_would 119 = .ok (.aload_n 0, 1) := dk_42 (dk_at dksX10_would_5 7 rfl rfl)
theorem dX10_would_120 : decode cX10_would 120 = .ok (.getfield 87, 3) := dk_180 0 87 (dk_at dksX10_would_5 8 rfl rfl)
theorem dX10_would_123 : decode cX10_would 123 = .ok (.iconst 5, 1) := dk_8 (dk_at dksX10_would_5 11 rfl rfl)
theorem dX10_would_124 : decode cX10_would 124 = .ok (.iload 6, 2) := dk_21 6 (dk_at dksX10_would_5 12 rfl rfl)
theorem dX10_would_126 : decode cX10_would 126 = .ok (.iastore, 1) := dk_79 (dk_at dksX10_would_5 14 rfl rfl)
theorem dX10_would_127 : decode cX10_would 127 = .ok (.aload_n 0, 1) := dk_42 (dk_at dksX10_would_5 15 rfl rfl)
theorem dX10_would_128 : decode cX10_would 128 = .ok (.invokevirtual 375, 3) := dk_182 1 119 (dk_at dksX10_would_5 16 rfl rfl)
theorem dX10_would_131 : decode cX10_would 131 = .ok (.ireturn, 1) := dk_172 (dk_at dksX10_would_5 19 rfl rfl)
abbrev cX10_lastsNow : ByteArray := prog_19_method_40_code
def yX10_lastsNow : MethodName := ⟨RX10, "lastsNow", "()I"⟩
def dkwX10_lastsNow_1 : List UInt8 := [162, 0, 7, 4, 167, 0, 15, 27, 16, 99, 164, 0, 8, 16, 99, 167, 0, 4, 27, 172]
abbrev dktX10_lastsNow_1 : List UInt8 := dkwX10_lastsNow_1 ++ []
def dkwX10_lastsNow_0 : List UInt8 := [42, 180, 0, 233, 154, 0, 12, 42, 180, 0, 87, 3, 46, 167, 0, 7, 42, 182, 1, 102, 60, 27, 4]
abbrev dktX10_lastsNow_0 : List UInt8 := dkwX10_lastsNow_0 ++ dktX10_lastsNow_1
theorem dksX10_lastsNow_0 : cX10_lastsNow.data.toList.drop 0 = dktX10_lastsNow_0 := by decide +kernel
theorem dksX10_lastsNow_1 : cX10_lastsNow.data.toList.drop 23 = dktX10_lastsNow_1 := dk_seg dksX10_lastsNow_0 23 rfl rfl
theorem dX10_lastsNow_0 : decode cX10_lastsNow 0 = .ok (.aload_n 0, 1) := dk_42 (dk_at dksX10_lastsNow_0 0 rfl rfl)
theorem dX10_lastsNow_1 : decode cX10_lastsNow 1 = .ok (.getfield 233, 3) := dk_180 0 233 (dk_at dksX10_lastsNow_0 1 rfl rfl)
theorem dX10_lastsNow_4 : decode cX10_lastsNow 4 = .ok (.ifCond .ne 12, 3) := dk_154 0 12 (dk_at dksX10_lastsNow_0 4 rfl rfl)
theorem dX10_lastsNow_7 : decode cX10_lastsNow 7 = .ok (.aload_n 0, 1) := dk_42 (dk_at dksX10_lastsNow_0 7 rfl rfl)
theorem dX10_lastsNow_8 : decode cX10_lastsNow 8 = .ok (.getfield 87, 3) := dk_180 0 87 (dk_at dksX10_lastsNow_0 8 rfl rfl)
theorem dX10_lastsNow_11 : decode cX10_lastsNow 11 = .ok (.iconst 0, 1) := dk_3 (dk_at dksX10_lastsNow_0 11 rfl rfl)
theorem dX10_lastsNow_12 : decode cX10_lastsNow 12 = .ok (.iaload, 1) := dk_46 (dk_at dksX10_lastsNow_0 12 rfl rfl)
theorem dX10_lastsNow_13 : decode cX10_lastsNow 13 = .ok (.goto 7, 3) := dk_167 0 7 (dk_at dksX10_lastsNow_0 13 rfl rfl)
theorem dX10_lastsNow_16 : decode cX10_lastsNow 16 = .ok (.aload_n 0, 1) := dk_42 (dk_at dksX10_lastsNow_0 16 rfl rfl)
theorem dX10_lastsNow_17 : decode cX10_lastsNow 17 = .ok (.invokevirtual 358, 3) := dk_182 1 102 (dk_at dksX10_lastsNow_0 17 rfl rfl)
theorem dX10_lastsNow_20 : decode cX10_lastsNow 20 = .ok (.istore_n 1, 1) := dk_60 (dk_at dksX10_lastsNow_0 20 rfl rfl)
theorem dX10_lastsNow_21 : decode cX10_lastsNow 21 = .ok (.iload_n 1, 1) := dk_27 (dk_at dksX10_lastsNow_0 21 rfl rfl)
theorem dX10_lastsNow_22 : decode cX10_lastsNow 22 = .ok (.iconst 1, 1) := dk_4 (dk_at dksX10_lastsNow_0 22 rfl rfl)
theorem dX10_lastsNow_23 : decode cX10_lastsNow 23 = .ok (.if_icmp .ge 7, 3) := dk_162 0 7 (dk_at dksX10_lastsNow_1 0 rfl rfl)
theorem dX10_lastsNow_26 : decode cX10_lastsNow 26 = .ok (.iconst 1, 1) := dk_4 (dk_at dksX10_lastsNow_1 3 rfl rfl)
theorem dX10_lastsNow_27 : decode cX10_lastsNow 27 = .ok (.goto 15, 3) := dk_167 0 15 (dk_at dksX10_lastsNow_1 4 rfl rfl)
theorem dX10_lastsNow_30 : decode cX10_lastsNow 30 = .ok (.iload_n 1, 1) := dk_27 (dk_at dksX10_lastsNow_1 7 rfl rfl)
theorem dX10_lastsNow_31 : decode cX10_lastsNow 31 = .ok (.bipush 99, 2) := dk_16 99 (dk_at dksX10_lastsNow_1 8 rfl rfl)
theorem dX10_lastsNow_33 : decode cX10_lastsNow 33 = .ok (.if_icmp .le 8, 3) := dk_164 0 8 (dk_at dksX10_lastsNow_1 10 rfl rfl)
theorem dX10_lastsNow_36 : decode cX10_lastsNow 36 = .ok (.bipush 99, 2) := dk_16 99 (dk_at dksX10_lastsNow_1 13 rfl rfl)
theorem dX10_lastsNow_38 : decode cX10_lastsNow 38 = .ok (.goto 4, 3) := dk_167 0 4 (dk_at dksX10_lastsNow_1 15 rfl rfl)
theorem dX10_lastsNow_41 : decode cX10_lastsNow 41 = .ok (.iload_n 1, 1) := dk_27 (dk_at dksX10_lastsNow_1 18 rfl rfl)
theorem dX10_lastsNow_42 : decode cX10_lastsNow 42 = .ok (.ireturn, 1) := dk_172 (dk_at dksX10_lastsNow_1 19 rfl rfl)
abbrev cX10_valueNow : ByteArray := prog_19_method_38_code
def yX10_valueNow : MethodName := ⟨RX10, "valueNow", "()I"⟩
def dkwX10_valueNow_4 : List UInt8 := [42, 180, 0, 84, 3, 46, 172]
abbrev dktX10_valueNow_4 : List UInt8 := dkwX10_valueNow_4 ++ []
def dkwX10_valueNow_3 : List UInt8 := [42, 180, 0, 84, 27, 4, 100, 46, 42, 180, 0, 84, 27, 46, 184, 1, 98, 79, 132, 2, 1, 167, 255, 168]
abbrev dktX10_valueNow_3 : List UInt8 := dkwX10_valueNow_3 ++ dktX10_valueNow_4
def dkwX10_valueNow_2 : List UInt8 := [180, 0, 81, 28, 46, 46, 79, 132, 1, 1, 167, 0, 32, 132, 1, 255, 42, 180, 0, 84, 27, 4, 100, 29]
abbrev dktX10_valueNow_2 : List UInt8 := dkwX10_valueNow_2 ++ dktX10_valueNow_3
def dkwX10_valueNow_1 : List UInt8 := [42, 180, 0, 84, 27, 29, 154, 0, 12, 42, 180, 0, 81, 28, 46, 167, 0, 14, 42, 180, 0, 87, 42]
abbrev dktX10_valueNow_1 : List UInt8 := dkwX10_valueNow_1 ++ dktX10_valueNow_2
def dkwX10_valueNow_0 : List UInt8 := [3, 60, 3, 61, 28, 42, 180, 0, 233, 162, 0, 86, 42, 180, 0, 78, 28, 46, 62, 29, 4, 163, 0, 39]
abbrev dktX10_valueNow_0 : List UInt8 := dkwX10_valueNow_0 ++ dktX10_valueNow_1
theorem dksX10_valueNow_0 : cX10_valueNow.data.toList.drop 0 = dktX10_valueNow_0 := by decide +kernel
theorem dksX10_valueNow_1 : cX10_valueNow.data.toList.drop 24 = dktX10_valueNow_1 := dk_seg dksX10_valueNow_0 24 rfl rfl
theorem dksX10_valueNow_2 : cX10_valueNow.data.toList.drop 47 = dktX10_valueNow_2 := dk_seg dksX10_valueNow_1 23 rfl rfl
theorem dksX10_valueNow_3 : cX10_valueNow.data.toList.drop 71 = dktX10_valueNow_3 := dk_seg dksX10_valueNow_2 24 rfl rfl
theorem dksX10_valueNow_4 : cX10_valueNow.data.toList.drop 95 = dktX10_valueNow_4 := dk_seg dksX10_valueNow_3 24 rfl rfl
theorem dX10_valueNow_0 : decode cX10_valueNow 0 = .ok (.iconst 0, 1) := dk_3 (dk_at dksX10_valueNow_0 0 rfl rfl)
theorem dX10_valueNow_1 : decode cX10_valueNow 1 = .ok (.istore_n 1, 1) := dk_60 (dk_at dksX10_valueNow_0 1 rfl rfl)
theorem dX10_valueNow_2 : decode cX10_valueNow 2 = .ok (.iconst 0, 1) := dk_3 (dk_at dksX10_valueNow_0 2 rfl rfl)
theorem dX10_valueNow_3 : decode cX10_valueNow 3 = .ok (.istore_n 2, 1) := dk_61 (dk_at dksX10_valueNow_0 3 rfl rfl)
theorem dX10_valueNow_4 : decode cX10_valueNow 4 = .ok (.iload_n 2, 1) := dk_28 (dk_at dksX10_valueNow_0 4 rfl rfl)
theorem dX10_valueNow_5 : decode cX10_valueNow 5 = .ok (.aload_n 0, 1) := dk_42 (dk_at dksX10_valueNow_0 5 rfl rfl)
theorem dX10_valueNow_6 : decode cX10_valueNow 6 = .ok (.getfield 233, 3) := dk_180 0 233 (dk_at dksX10_valueNow_0 6 rfl rfl)
theorem dX10_valueNow_9 : decode cX10_valueNow 9 = .ok (.if_icmp .ge 86, 3) := dk_162 0 86 (dk_at dksX10_valueNow_0 9 rfl rfl)
theorem dX10_valueNow_12 : decode cX10_valueNow 12 = .ok (.aload_n 0, 1) := dk_42 (dk_at dksX10_valueNow_0 12 rfl rfl)
theorem dX10_valueNow_13 : decode cX10_valueNow 13 = .ok (.getfield 78, 3) := dk_180 0 78 (dk_at dksX10_valueNow_0 13 rfl rfl)
theorem dX10_valueNow_16 : decode cX10_valueNow 16 = .ok (.iload_n 2, 1) := dk_28 (dk_at dksX10_valueNow_0 16 rfl rfl)
theorem dX10_valueNow_17 : decode cX10_valueNow 17 = .ok (.iaload, 1) := dk_46 (dk_at dksX10_valueNow_0 17 rfl rfl)
theorem dX10_valueNow_18 : decode cX10_valueNow 18 = .ok (.istore_n 3, 1) := dk_62 (dk_at dksX10_valueNow_0 18 rfl rfl)
theorem dX10_valueNow_19 : decode cX10_valueNow 19 = .ok (.iload_n 3, 1) := dk_29 (dk_at dksX10_valueNow_0 19 rfl rfl)
theorem dX10_valueNow_20 : decode cX10_valueNow 20 = .ok (.iconst 1, 1) := dk_4 (dk_at dksX10_valueNow_0 20 rfl rfl)
theorem dX10_valueNow_21 : decode cX10_valueNow 21 = .ok (.if_icmp .gt 39, 3) := dk_163 0 39 (dk_at dksX10_valueNow_0 21 rfl rfl)
theorem dX10_valueNow_24 : decode cX10_valueNow 24 = .ok (.aload_n 0, 1) := dk_42 (dk_at dksX10_valueNow_1 0 rfl rfl)
theorem dX10_valueNow_25 : decode cX10_valueNow 25 = .ok (.getfield 84, 3) := dk_180 0 84 (dk_at dksX10_valueNow_1 1 rfl rfl)
theorem dX10_valueNow_28 : decode cX10_valueNow 28 = .ok (.iload_n 1, 1) := dk_27 (dk_at dksX10_valueNow_1 4 rfl rfl)
theorem dX10_valueNow_29 : decode cX10_valueNow 29 = .ok (.iload_n 3, 1) := dk_29 (dk_at dksX10_valueNow_1 5 rfl rfl)
theorem dX10_valueNow_30 : decode cX10_valueNow 30 = .ok (.ifCond .ne 12, 3) := dk_154 0 12 (dk_at dksX10_valueNow_1 6 rfl rfl)
theorem dX10_valueNow_33 : decode cX10_valueNow 33 = .ok (.aload_n 0, 1) := dk_42 (dk_at dksX10_valueNow_1 9 rfl rfl)
theorem dX10_valueNow_34 : decode cX10_valueNow 34 = .ok (.getfield 81, 3) := dk_180 0 81 (dk_at dksX10_valueNow_1 10 rfl rfl)
theorem dX10_valueNow_37 : decode cX10_valueNow 37 = .ok (.iload_n 2, 1) := dk_28 (dk_at dksX10_valueNow_1 13 rfl rfl)
theorem dX10_valueNow_38 : decode cX10_valueNow 38 = .ok (.iaload, 1) := dk_46 (dk_at dksX10_valueNow_1 14 rfl rfl)
theorem dX10_valueNow_39 : decode cX10_valueNow 39 = .ok (.goto 14, 3) := dk_167 0 14 (dk_at dksX10_valueNow_1 15 rfl rfl)
theorem dX10_valueNow_42 : decode cX10_valueNow 42 = .ok (.aload_n 0, 1) := dk_42 (dk_at dksX10_valueNow_1 18 rfl rfl)
theorem dX10_valueNow_43 : decode cX10_valueNow 43 = .ok (.getfield 87, 3) := dk_180 0 87 (dk_at dksX10_valueNow_1 19 rfl rfl)
theorem dX10_valueNow_46 : decode cX10_valueNow 46 = .ok (.aload_n 0, 1) := dk_42 (dk_at dksX10_valueNow_1 22 rfl rfl)
theorem dX10_valueNow_47 : decode cX10_valueNow 47 = .ok (.getfield 81, 3) := dk_180 0 81 (dk_at dksX10_valueNow_2 0 rfl rfl)
theorem dX10_valueNow_50 : decode cX10_valueNow 50 = .ok (.iload_n 2, 1) := dk_28 (dk_at dksX10_valueNow_2 3 rfl rfl)
theorem dX10_valueNow_51 : decode cX10_valueNow 51 = .ok (.iaload, 1) := dk_46 (dk_at dksX10_valueNow_2 4 rfl rfl)
theorem dX10_valueNow_52 : decode cX10_valueNow 52 = .ok (.iaload, 1) := dk_46 (dk_at dksX10_valueNow_2 5 rfl rfl)
theorem dX10_valueNow_53 : decode cX10_valueNow 53 = .ok (.iastore, 1) := dk_79 (dk_at dksX10_valueNow_2 6 rfl rfl)
theorem dX10_valueNow_54 : decode cX10_valueNow 54 = .ok (.iinc 1 1, 3) := dk_132 1 1 (dk_at dksX10_valueNow_2 7 rfl rfl)
theorem dX10_valueNow_57 : decode cX10_valueNow 57 = .ok (.goto 32, 3) := dk_167 0 32 (dk_at dksX10_valueNow_2 10 rfl rfl)
theorem dX10_valueNow_60 : decode cX10_valueNow 60 = .ok (.iinc 1 (-1), 3) := dk_132 1 255 (dk_at dksX10_valueNow_2 13 rfl rfl)
theorem dX10_valueNow_63 : decode cX10_valueNow 63 = .ok (.aload_n 0, 1) := dk_42 (dk_at dksX10_valueNow_2 16 rfl rfl)
theorem dX10_valueNow_64 : decode cX10_valueNow 64 = .ok (.getfield 84, 3) := dk_180 0 84 (dk_at dksX10_valueNow_2 17 rfl rfl)
theorem dX10_valueNow_67 : decode cX10_valueNow 67 = .ok (.iload_n 1, 1) := dk_27 (dk_at dksX10_valueNow_2 20 rfl rfl)
theorem dX10_valueNow_68 : decode cX10_valueNow 68 = .ok (.iconst 1, 1) := dk_4 (dk_at dksX10_valueNow_2 21 rfl rfl)
theorem dX10_valueNow_69 : decode cX10_valueNow 69 = .ok (.isub, 1) := dk_100 (dk_at dksX10_valueNow_2 22 rfl rfl)
theorem dX10_valueNow_70 : decode cX10_valueNow 70 = .ok (.iload_n 3, 1) := dk_29 (dk_at dksX10_valueNow_2 23 rfl rfl)
theorem dX10_valueNow_71 : decode cX10_valueNow 71 = .ok (.aload_n 0, 1) := dk_42 (dk_at dksX10_valueNow_3 0 rfl rfl)
theorem dX10_valueNow_72 : decode cX10_valueNow 72 = .ok (.getfield 84, 3) := dk_180 0 84 (dk_at dksX10_valueNow_3 1 rfl rfl)
theorem dX10_valueNow_75 : decode cX10_valueNow 75 = .ok (.iload_n 1, 1) := dk_27 (dk_at dksX10_valueNow_3 4 rfl rfl)
theorem dX10_valueNow_76 : decode cX10_valueNow 76 = .ok (.iconst 1, 1) := dk_4 (dk_at dksX10_valueNow_3 5 rfl rfl)
theorem dX10_valueNow_77 : decode cX10_valueNow 77 = .ok (.isub, 1) := dk_100 (dk_at dksX10_valueNow_3 6 rfl rfl)
theorem dX10_valueNow_78 : decode cX10_valueNow 78 = .ok (.iaload, 1) := dk_46 (dk_at dksX10_valueNow_3 7 rfl rfl)
theorem dX10_valueNow_79 : decode cX10_valueNow 79 = .ok (.aload_n 0, 1) := dk_42 (dk_at dksX10_valueNow_3 8 rfl rfl)
theorem dX10_valueNow_80 : decode cX10_valueNow 80 = .ok (.getfield 84, 3) := dk_180 0 84 (dk_at dksX10_valueNow_3 9 rfl rfl)
theorem dX10_valueNow_83 : decode cX10_valueNow 83 = .ok (.iload_n 1, 1) := dk_27 (dk_at dksX10_valueNow_3 12 rfl rfl)
theorem dX10_valueNow_84 : decode cX10_valueNow 84 = .ok (.iaload, 1) := dk_46 (dk_at dksX10_valueNow_3 13 rfl rfl)
theorem dX10_valueNow_85 : decode cX10_valueNow 85 = .ok (.invokestatic 354, 3) := dk_184 1 98 (dk_at dksX10_valueNow_3 14 rfl rfl)
theorem dX10_valueNow_88 : decode cX10_valueNow 88 = .ok (.iastore, 1) := dk_79 (dk_at dksX10_valueNow_3 17 rfl rfl)
theorem dX10_valueNow_89 : decode cX10_valueNow 89 = .ok (.iinc 2 1, 3) := dk_132 2 1 (dk_at dksX10_valueNow_3 18 rfl rfl)
theorem dX10_valueNow_92 : decode cX10_valueNow 92 = .ok (.goto (-88), 3) := dk_167 255 168 (dk_at dksX10_valueNow_3 21 rfl rfl)
theorem dX10_valueNow_95 : decode cX10_valueNow 95 = .ok (.aload_n 0, 1) := dk_42 (dk_at dksX10_valueNow_4 0 rfl rfl)
theorem dX10_valueNow_96 : decode cX10_valueNow 96 = .ok (.getfield 84, 3) := dk_180 0 84 (dk_at dksX10_valueNow_4 1 rfl rfl)
theorem dX10_valueNow_99 : decode cX10_valueNow 99 = .ok (.iconst 0, 1) := dk_3 (dk_at dksX10_valueNow_4 4 rfl rfl)
theorem dX10_valueNow_100 : decode cX10_valueNow 100 = .ok (.iaload, 1) := dk_46 (dk_at dksX10_valueNow_4 5 rfl rfl)
theorem dX10_valueNow_101 : decode cX10_valueNow 101 = .ok (.ireturn, 1) := dk_172 (dk_at dksX10_valueNow_4 6 rfl rfl)
abbrev cX10_both : ByteArray := prog_19_method_39_code
def yX10_both : MethodName := ⟨RX10, "both", "(III)I"⟩
def dkwX10_both_3 : List UInt8 := [167, 0, 4, 28, 172]
abbrev dktX10_both_3 : List UInt8 := dkwX10_both_3 ++ []
def dkwX10_both_2 : List UInt8 := [162, 0, 7, 4, 167, 0, 4, 3, 26, 16, 6, 160, 0, 7, 4, 167, 0, 4, 3, 160, 0, 7, 27]
abbrev dktX10_both_2 : List UInt8 := dkwX10_both_2 ++ dktX10_both_3
def dkwX10_both_1 : List UInt8 := [28, 104, 172, 26, 8, 160, 0, 15, 28, 154, 0, 7, 3, 167, 0, 6, 27, 28, 108, 172, 27, 28]
abbrev dktX10_both_1 : List UInt8 := dkwX10_both_1 ++ dktX10_both_2
def dkwX10_both_0 : List UInt8 := [26, 5, 160, 0, 7, 27, 28, 96, 172, 26, 6, 160, 0, 7, 27, 28, 100, 172, 26, 7, 160, 0, 7, 27]
abbrev dktX10_both_0 : List UInt8 := dkwX10_both_0 ++ dktX10_both_1
theorem dksX10_both_0 : cX10_both.data.toList.drop 0 = dktX10_both_0 := by decide +kernel
theorem dksX10_both_1 : cX10_both.data.toList.drop 24 = dktX10_both_1 := dk_seg dksX10_both_0 24 rfl rfl
theorem dksX10_both_2 : cX10_both.data.toList.drop 46 = dktX10_both_2 := dk_seg dksX10_both_1 22 rfl rfl
theorem dksX10_both_3 : cX10_both.data.toList.drop 69 = dktX10_both_3 := dk_seg dksX10_both_2 23 rfl rfl
theorem dX10_both_0 : decode cX10_both 0 = .ok (.iload_n 0, 1) := dk_26 (dk_at dksX10_both_0 0 rfl rfl)
theorem dX10_both_1 : decode cX10_both 1 = .ok (.iconst 2, 1) := dk_5 (dk_at dksX10_both_0 1 rfl rfl)
theorem dX10_both_2 : decode cX10_both 2 = .ok (.if_icmp .ne 7, 3) := dk_160 0 7 (dk_at dksX10_both_0 2 rfl rfl)
theorem dX10_both_5 : decode cX10_both 5 = .ok (.iload_n 1, 1) := dk_27 (dk_at dksX10_both_0 5 rfl rfl)
theorem dX10_both_6 : decode cX10_both 6 = .ok (.iload_n 2, 1) := dk_28 (dk_at dksX10_both_0 6 rfl rfl)
theorem dX10_both_7 : decode cX10_both 7 = .ok (.iadd, 1) := dk_96 (dk_at dksX10_both_0 7 rfl rfl)
theorem dX10_both_8 : decode cX10_both 8 = .ok (.ireturn, 1) := dk_172 (dk_at dksX10_both_0 8 rfl rfl)
theorem dX10_both_9 : decode cX10_both 9 = .ok (.iload_n 0, 1) := dk_26 (dk_at dksX10_both_0 9 rfl rfl)
theorem dX10_both_10 : decode cX10_both 10 = .ok (.iconst 3, 1) := dk_6 (dk_at dksX10_both_0 10 rfl rfl)
theorem dX10_both_11 : decode cX10_both 11 = .ok (.if_icmp .ne 7, 3) := dk_160 0 7 (dk_at dksX10_both_0 11 rfl rfl)
theorem dX10_both_14 : decode cX10_both 14 = .ok (.iload_n 1, 1) := dk_27 (dk_at dksX10_both_0 14 rfl rfl)
theorem dX10_both_15 : decode cX10_both 15 = .ok (.iload_n 2, 1) := dk_28 (dk_at dksX10_both_0 15 rfl rfl)
theorem dX10_both_16 : decode cX10_both 16 = .ok (.isub, 1) := dk_100 (dk_at dksX10_both_0 16 rfl rfl)
theorem dX10_both_17 : decode cX10_both 17 = .ok (.ireturn, 1) := dk_172 (dk_at dksX10_both_0 17 rfl rfl)
theorem dX10_both_18 : decode cX10_both 18 = .ok (.iload_n 0, 1) := dk_26 (dk_at dksX10_both_0 18 rfl rfl)
theorem dX10_both_19 : decode cX10_both 19 = .ok (.iconst 4, 1) := dk_7 (dk_at dksX10_both_0 19 rfl rfl)
theorem dX10_both_20 : decode cX10_both 20 = .ok (.if_icmp .ne 7, 3) := dk_160 0 7 (dk_at dksX10_both_0 20 rfl rfl)
theorem dX10_both_23 : decode cX10_both 23 = .ok (.iload_n 1, 1) := dk_27 (dk_at dksX10_both_0 23 rfl rfl)
theorem dX10_both_24 : decode cX10_both 24 = .ok (.iload_n 2, 1) := dk_28 (dk_at dksX10_both_1 0 rfl rfl)
theorem dX10_both_25 : decode cX10_both 25 = .ok (.imul, 1) := dk_104 (dk_at dksX10_both_1 1 rfl rfl)
theorem dX10_both_26 : decode cX10_both 26 = .ok (.ireturn, 1) := dk_172 (dk_at dksX10_both_1 2 rfl rfl)
theorem dX10_both_27 : decode cX10_both 27 = .ok (.iload_n 0, 1) := dk_26 (dk_at dksX10_both_1 3 rfl rfl)
theorem dX10_both_28 : decode cX10_both 28 = .ok (.iconst 5, 1) := dk_8 (dk_at dksX10_both_1 4 rfl rfl)
theorem dX10_both_29 : decode cX10_both 29 = .ok (.if_icmp .ne 15, 3) := dk_160 0 15 (dk_at dksX10_both_1 5 rfl rfl)
theorem dX10_both_32 : decode cX10_both 32 = .ok (.iload_n 2, 1) := dk_28 (dk_at dksX10_both_1 8 rfl rfl)
theorem dX10_both_33 : decode cX10_both 33 = .ok (.ifCond .ne 7, 3) := dk_154 0 7 (dk_at dksX10_both_1 9 rfl rfl)
theorem dX10_both_36 : decode cX10_both 36 = .ok (.iconst 0, 1) := dk_3 (dk_at dksX10_both_1 12 rfl rfl)
theorem dX10_both_37 : decode cX10_both 37 = .ok (.goto 6, 3) := dk_167 0 6 (dk_at dksX10_both_1 13 rfl rfl)
theorem dX10_both_40 : decode cX10_both 40 = .ok (.iload_n 1, 1) := dk_27 (dk_at dksX10_both_1 16 rfl rfl)
theorem dX10_both_41 : decode cX10_both 41 = .ok (.iload_n 2, 1) := dk_28 (dk_at dksX10_both_1 17 rfl rfl)
theorem dX10_both_42 : decode cX10_both 42 = .ok (.idiv, 1) := dk_108 (dk_at dksX10_both_1 18 rfl rfl)
theorem dX10_both_43 : decode cX10_both 43 = .ok (.ireturn, 1) := dk_172 (dk_at dksX10_both_1 19 rfl rfl)
theorem dX10_both_44 : decode cX10_both 44 = .ok (.iload_n 1, 1) := dk_27 (dk_at dksX10_both_1 20 rfl rfl)
theorem dX10_both_45 : decode cX10_both 45 = .ok (.iload_n 2, 1) := dk_28 (dk_at dksX10_both_1 21 rfl rfl)
theorem dX10_both_46 : decode cX10_both 46 = .ok (.if_icmp .ge 7, 3) := dk_162 0 7 (dk_at dksX10_both_2 0 rfl rfl)
theorem dX10_both_49 : decode cX10_both 49 = .ok (.iconst 1, 1) := dk_4 (dk_at dksX10_both_2 3 rfl rfl)
theorem dX10_both_50 : decode cX10_both 50 = .ok (.goto 4, 3) := dk_167 0 4 (dk_at dksX10_both_2 4 rfl rfl)
theorem dX10_both_53 : decode cX10_both 53 = .ok (.iconst 0, 1) := dk_3 (dk_at dksX10_both_2 7 rfl rfl)
theorem dX10_both_54 : decode cX10_both 54 = .ok (.iload_n 0, 1) := dk_26 (dk_at dksX10_both_2 8 rfl rfl)
theorem dX10_both_55 : decode cX10_both 55 = .ok (.bipush 6, 2) := dk_16 6 (dk_at dksX10_both_2 9 rfl rfl)
theorem dX10_both_57 : decode cX10_both 57 = .ok (.if_icmp .ne 7, 3) := dk_160 0 7 (dk_at dksX10_both_2 11 rfl rfl)
theorem dX10_both_60 : decode cX10_both 60 = .ok (.iconst 1, 1) := dk_4 (dk_at dksX10_both_2 14 rfl rfl)
theorem dX10_both_61 : decode cX10_both 61 = .ok (.goto 4, 3) := dk_167 0 4 (dk_at dksX10_both_2 15 rfl rfl)
theorem dX10_both_64 : decode cX10_both 64 = .ok (.iconst 0, 1) := dk_3 (dk_at dksX10_both_2 18 rfl rfl)
theorem dX10_both_65 : decode cX10_both 65 = .ok (.if_icmp .ne 7, 3) := dk_160 0 7 (dk_at dksX10_both_2 19 rfl rfl)
theorem dX10_both_68 : decode cX10_both 68 = .ok (.iload_n 1, 1) := dk_27 (dk_at dksX10_both_2 22 rfl rfl)
theorem dX10_both_69 : decode cX10_both 69 = .ok (.goto 4, 3) := dk_167 0 4 (dk_at dksX10_both_3 0 rfl rfl)
theorem dX10_both_72 : decode cX10_both 72 = .ok (.iload_n 2, 1) := dk_28 (dk_at dksX10_both_3 3 rfl rfl)
theorem dX10_both_73 : decode cX10_both 73 = .ok (.ireturn, 1) := dk_172 (dk_at dksX10_both_3 4 rfl rfl)
abbrev cX10_line : ByteArray := prog_19_method_63_code
def yX10_line : MethodName := ⟨RX10, "line", "(II)I"⟩
def dkwX10_line_4 : List UInt8 := [180, 0, 105, 27, 46, 172]
abbrev dktX10_line_4 : List UInt8 := dkwX10_line_4 ++ []
def dkwX10_line_3 : List UInt8 := [167, 0, 27, 3, 167, 0, 23, 28, 6, 160, 0, 12, 42, 180, 0, 102, 27, 46, 167, 0, 9, 42]
abbrev dktX10_line_3 : List UInt8 := dkwX10_line_3 ++ dktX10_line_4
def dkwX10_line_2 : List UInt8 := [42, 3, 182, 1, 152, 87, 28, 5, 160, 0, 21, 42, 180, 0, 102, 27, 46, 2, 160, 0, 7, 4]
abbrev dktX10_line_2 : List UInt8 := dkwX10_line_2 ++ dktX10_line_3
def dkwX10_line_1 : List UInt8 := [182, 1, 19, 154, 0, 5, 3, 172, 28, 5, 162, 0, 14, 42, 180, 0, 93, 5, 27, 104, 28, 96, 46, 172]
abbrev dktX10_line_1 : List UInt8 := dkwX10_line_1 ++ dktX10_line_2
def dkwX10_line_0 : List UInt8 := [42, 3, 181, 0, 3, 42, 27, 4, 182, 1, 149, 153, 0, 18, 42, 28, 3, 7, 184, 1, 108, 5, 4]
abbrev dktX10_line_0 : List UInt8 := dkwX10_line_0 ++ dktX10_line_1
theorem dksX10_line_0 : cX10_line.data.toList.drop 0 = dktX10_line_0 := by decide +kernel
theorem dksX10_line_1 : cX10_line.data.toList.drop 23 = dktX10_line_1 := dk_seg dksX10_line_0 23 rfl rfl
theorem dksX10_line_2 : cX10_line.data.toList.drop 47 = dktX10_line_2 := dk_seg dksX10_line_1 24 rfl rfl
theorem dksX10_line_3 : cX10_line.data.toList.drop 69 = dktX10_line_3 := dk_seg dksX10_line_2 22 rfl rfl
theorem dksX10_line_4 : cX10_line.data.toList.drop 91 = dktX10_line_4 := dk_seg dksX10_line_3 22 rfl rfl
theorem dX10_line_0 : decode cX10_line 0 = .ok (.aload_n 0, 1) := dk_42 (dk_at dksX10_line_0 0 rfl rfl)
theorem dX10_line_1 : decode cX10_line 1 = .ok (.iconst 0, 1) := dk_3 (dk_at dksX10_line_0 1 rfl rfl)
theorem dX10_line_2 : decode cX10_line 2 = .ok (.putfield 3, 3) := dk_181 0 3 (dk_at dksX10_line_0 2 rfl rfl)
theorem dX10_line_5 : decode cX10_line 5 = .ok (.aload_n 0, 1) := dk_42 (dk_at dksX10_line_0 5 rfl rfl)
theorem dX10_line_6 : decode cX10_line 6 = .ok (.iload_n 1, 1) := dk_27 (dk_at dksX10_line_0 6 rfl rfl)
theorem dX10_line_7 : decode cX10_line 7 = .ok (.iconst 1, 1) := dk_4 (dk_at dksX10_line_0 7 rfl rfl)
theorem dX10_line_8 : decode cX10_line 8 = .ok (.invokevirtual 405, 3) := dk_182 1 149 (dk_at dksX10_line_0 8 rfl rfl)
theorem dX10_line_11 : decode cX10_line 11 = .ok (.ifCond .eq 18, 3) := dk_153 0 18 (dk_at dksX10_line_0 11 rfl rfl)
theorem dX10_line_14 : decode cX10_line 14 = .ok (.aload_n 0, 1) := dk_42 (dk_at dksX10_line_0 14 rfl rfl)
theorem dX10_line_15 : decode cX10_line 15 = .ok (.iload_n 2, 1) := dk_28 (dk_at dksX10_line_0 15 rfl rfl)
theorem dX10_line_16 : decode cX10_line 16 = .ok (.iconst 0, 1) := dk_3 (dk_at dksX10_line_0 16 rfl rfl)
theorem dX10_line_17 : decode cX10_line 17 = .ok (.iconst 4, 1) := dk_7 (dk_at dksX10_line_0 17 rfl rfl)
theorem dX10_line_18 : decode cX10_line 18 = .ok (.invokestatic 364, 3) := dk_184 1 108 (dk_at dksX10_line_0 18 rfl rfl)
theorem dX10_line_21 : decode cX10_line 21 = .ok (.iconst 2, 1) := dk_5 (dk_at dksX10_line_0 21 rfl rfl)
theorem dX10_line_22 : decode cX10_line 22 = .ok (.iconst 1, 1) := dk_4 (dk_at dksX10_line_0 22 rfl rfl)
theorem dX10_line_23 : decode cX10_line 23 = .ok (.invokevirtual 275, 3) := dk_182 1 19 (dk_at dksX10_line_1 0 rfl rfl)
theorem dX10_line_26 : decode cX10_line 26 = .ok (.ifCond .ne 5, 3) := dk_154 0 5 (dk_at dksX10_line_1 3 rfl rfl)
theorem dX10_line_29 : decode cX10_line 29 = .ok (.iconst 0, 1) := dk_3 (dk_at dksX10_line_1 6 rfl rfl)
theorem dX10_line_30 : decode cX10_line 30 = .ok (.ireturn, 1) := dk_172 (dk_at dksX10_line_1 7 rfl rfl)
theorem dX10_line_31 : decode cX10_line 31 = .ok (.iload_n 2, 1) := dk_28 (dk_at dksX10_line_1 8 rfl rfl)
theorem dX10_line_32 : decode cX10_line 32 = .ok (.iconst 2, 1) := dk_5 (dk_at dksX10_line_1 9 rfl rfl)
theorem dX10_line_33 : decode cX10_line 33 = .ok (.if_icmp .ge 14, 3) := dk_162 0 14 (dk_at dksX10_line_1 10 rfl rfl)
theorem dX10_line_36 : decode cX10_line 36 = .ok (.aload_n 0, 1) := dk_42 (dk_at dksX10_line_1 13 rfl rfl)
theorem dX10_line_37 : decode cX10_line 37 = .ok (.getfield 93, 3) := dk_180 0 93 (dk_at dksX10_line_1 14 rfl rfl)
theorem dX10_line_40 : decode cX10_line 40 = .ok (.iconst 2, 1) := dk_5 (dk_at dksX10_line_1 17 rfl rfl)
theorem dX10_line_41 : decode cX10_line 41 = .ok (.iload_n 1, 1) := dk_27 (dk_at dksX10_line_1 18 rfl rfl)
theorem dX10_line_42 : decode cX10_line 42 = .ok (.imul, 1) := dk_104 (dk_at dksX10_line_1 19 rfl rfl)
theorem dX10_line_43 : decode cX10_line 43 = .ok (.iload_n 2, 1) := dk_28 (dk_at dksX10_line_1 20 rfl rfl)
theorem dX10_line_44 : decode cX10_line 44 = .ok (.iadd, 1) := dk_96 (dk_at dksX10_line_1 21 rfl rfl)
theorem dX10_line_45 : decode cX10_line 45 = .ok (.iaload, 1) := dk_46 (dk_at dksX10_line_1 22 rfl rfl)
theorem dX10_line_46 : decode cX10_line 46 = .ok (.ireturn, 1) := dk_172 (dk_at dksX10_line_1 23 rfl rfl)
theorem dX10_line_47 : decode cX10_line 47 = .ok (.aload_n 0, 1) := dk_42 (dk_at dksX10_line_2 0 rfl rfl)
theorem dX10_line_48 : decode cX10_line 48 = .ok (.iconst 0, 1) := dk_3 (dk_at dksX10_line_2 1 rfl rfl)
theorem dX10_line_49 : decode cX10_line 49 = .ok (.invokevirtual 408, 3) := dk_182 1 152 (dk_at dksX10_line_2 2 rfl rfl)
theorem dX10_line_52 : decode cX10_line 52 = .ok (.pop, 1) := dk_87 (dk_at dksX10_line_2 5 rfl rfl)
theorem dX10_line_53 : decode cX10_line 53 = .ok (.iload_n 2, 1) := dk_28 (dk_at dksX10_line_2 6 rfl rfl)
theorem dX10_line_54 : decode cX10_line 54 = .ok (.iconst 2, 1) := dk_5 (dk_at dksX10_line_2 7 rfl rfl)
theorem dX10_line_55 : decode cX10_line 55 = .ok (.if_icmp .ne 21, 3) := dk_160 0 21 (dk_at dksX10_line_2 8 rfl rfl)
theorem dX10_line_58 : decode cX10_line 58 = .ok (.aload_n 0, 1) := dk_42 (dk_at dksX10_line_2 11 rfl rfl)
theorem dX10_line_59 : decode cX10_line 59 = .ok (.getfield 102, 3) := dk_180 0 102 (dk_at dksX10_line_2 12 rfl rfl)
theorem dX10_line_62 : decode cX10_line 62 = .ok (.iload_n 1, 1) := dk_27 (dk_at dksX10_line_2 15 rfl rfl)
theorem dX10_line_63 : decode cX10_line 63 = .ok (.iaload, 1) := dk_46 (dk_at dksX10_line_2 16 rfl rfl)
theorem dX10_line_64 : decode cX10_line 64 = .ok (.iconst (-1), 1) := dk_2 (dk_at dksX10_line_2 17 rfl rfl)
theorem dX10_line_65 : decode cX10_line 65 = .ok (.if_icmp .ne 7, 3) := dk_160 0 7 (dk_at dksX10_line_2 18 rfl rfl)
theorem dX10_line_68 : decode cX10_line 68 = .ok (.iconst 1, 1) := dk_4 (dk_at dksX10_line_2 21 rfl rfl)
theorem dX10_line_69 : decode cX10_line 69 = .ok (.goto 27, 3) := dk_167 0 27 (dk_at dksX10_line_3 0 rfl rfl)
theorem dX10_line_72 : decode cX10_line 72 = .ok (.iconst 0, 1) := dk_3 (dk_at dksX10_line_3 3 rfl rfl)
theorem dX10_line_73 : decode cX10_line 73 = .ok (.goto 23, 3) := dk_167 0 23 (dk_at dksX10_line_3 4 rfl rfl)
theorem dX10_line_76 : decode cX10_line 76 = .ok (.iload_n 2, 1) := dk_28 (dk_at dksX10_line_3 7 rfl rfl)
theorem dX10_line_77 : decode cX10_line 77 = .ok (.iconst 3, 1) := dk_6 (dk_at dksX10_line_3 8 rfl rfl)
theorem dX10_line_78 : decode cX10_line 78 = .ok (.if_icmp .ne 12, 3) := dk_160 0 12 (dk_at dksX10_line_3 9 rfl rfl)
theorem dX10_line_81 : decode cX10_line 81 = .ok (.aload_n 0, 1) := dk_42 (dk_at dksX10_line_3 12 rfl rfl)
theorem dX10_line_82 : decode cX10_line 82 = .ok (.getfield 102, 3) := dk_180 0 102 (dk_at dksX10_line_3 13 rfl rfl)
theorem dX10_line_85 : decode cX10_line 85 = .ok (.iload_n 1, 1) := dk_27 (dk_at dksX10_line_3 16 rfl rfl)
theorem dX10_line_86 : decode cX10_line 86 = .ok (.iaload, 1) := dk_46 (dk_at dksX10_line_3 17 rfl rfl)
theorem dX10_line_87 : decode cX10_line 87 = .ok (.goto 9, 3) := dk_167 0 9 (dk_at dksX10_line_3 18 rfl rfl)
theorem dX10_line_90 : decode cX10_line 90 = .ok (.aload_n 0, 1) := dk_42 (dk_at dksX10_line_3 21 rfl rfl)
theorem dX10_line_91 : decode cX10_line 91 = .ok (.getfield 105, 3) := dk_180 0 105 (dk_at dksX10_line_4 0 rfl rfl)
theorem dX10_line_94 : decode cX10_line 94 = .ok (.iload_n 1, 1) := dk_27 (dk_at dksX10_line_4 3 rfl rfl)
theorem dX10_line_95 : decode cX10_line 95 = .ok (.iaload, 1) := dk_46 (dk_at dksX10_line_4 4 rfl rfl)
theorem dX10_line_96 : decode cX10_line 96 = .ok (.ireturn, 1) := dk_172 (dk_at dksX10_line_4 5 rfl rfl)
abbrev cX10_isLine : ByteArray := prog_19_method_48_code
def yX10_isLine : MethodName := ⟨RX10, "isLine", "(II)Z"⟩
def dkwX10_isLine_0 : List UInt8 := [42, 27, 3, 42, 180, 0, 236, 4, 100, 184, 1, 108, 28, 3, 182, 1, 19, 172]
abbrev dktX10_isLine_0 : List UInt8 := dkwX10_isLine_0 ++ []
theorem dksX10_isLine_0 : cX10_isLine.data.toList.drop 0 = dktX10_isLine_0 := by decide +kernel
theorem dX10_isLine_0 : decode cX10_isLine 0 = .ok (.aload_n 0, 1) := dk_42 (dk_at dksX10_isLine_0 0 rfl rfl)
theorem dX10_isLine_1 : decode cX10_isLine 1 = .ok (.iload_n 1, 1) := dk_27 (dk_at dksX10_isLine_0 1 rfl rfl)
theorem dX10_isLine_2 : decode cX10_isLine 2 = .ok (.iconst 0, 1) := dk_3 (dk_at dksX10_isLine_0 2 rfl rfl)
theorem dX10_isLine_3 : decode cX10_isLine 3 = .ok (.aload_n 0, 1) := dk_42 (dk_at dksX10_isLine_0 3 rfl rfl)
theorem dX10_isLine_4 : decode cX10_isLine 4 = .ok (.getfield 236, 3) := dk_180 0 236 (dk_at dksX10_isLine_0 4 rfl rfl)
theorem dX10_isLine_7 : decode cX10_isLine 7 = .ok (.iconst 1, 1) := dk_4 (dk_at dksX10_isLine_0 7 rfl rfl)
theorem dX10_isLine_8 : decode cX10_isLine 8 = .ok (.isub, 1) := dk_100 (dk_at dksX10_isLine_0 8 rfl rfl)
theorem dX10_isLine_9 : decode cX10_isLine 9 = .ok (.invokestatic 364, 3) := dk_184 1 108 (dk_at dksX10_isLine_0 9 rfl rfl)
theorem dX10_isLine_12 : decode cX10_isLine 12 = .ok (.iload_n 2, 1) := dk_28 (dk_at dksX10_isLine_0 12 rfl rfl)
theorem dX10_isLine_13 : decode cX10_isLine 13 = .ok (.iconst 0, 1) := dk_3 (dk_at dksX10_isLine_0 13 rfl rfl)
theorem dX10_isLine_14 : decode cX10_isLine 14 = .ok (.invokevirtual 275, 3) := dk_182 1 19 (dk_at dksX10_isLine_0 14 rfl rfl)
theorem dX10_isLine_17 : decode cX10_isLine 17 = .ok (.ireturn, 1) := dk_172 (dk_at dksX10_isLine_0 17 rfl rfl)
abbrev cX10_goes : ByteArray := prog_19_method_61_code
def yX10_goes : MethodName := ⟨RX10, "goes", "(Z)I"⟩
def dkwX10_goes_14 : List UInt8 := [132, 8, 1, 167, 255, 167, 132, 3, 1, 167, 254, 236, 28, 172]
abbrev dktX10_goes_14 : List UInt8 := dkwX10_goes_14 ++ []
def dkwX10_goes_13 : List UInt8 := [4, 96, 46, 4, 160, 0, 17, 42, 21, 6, 21, 6, 21, 7, 96, 182, 1, 146, 167, 0, 4, 3, 96, 79]
abbrev dktX10_goes_13 : List UInt8 := dkwX10_goes_13 ++ dktX10_goes_14
def dkwX10_goes_12 : List UInt8 := [21, 8, 92, 46, 21, 7, 96, 79, 42, 180, 0, 114, 21, 8, 92, 46, 42, 180, 0, 44, 8, 21, 4, 104]
abbrev dktX10_goes_12 : List UInt8 := dkwX10_goes_12 ++ dktX10_goes_13
def dkwX10_goes_11 : List UInt8 := [126, 154, 0, 6, 167, 0, 67, 42, 180, 0, 108, 21, 8, 21, 6, 21, 7, 96, 79, 42, 180, 0, 117]
abbrev dktX10_goes_11 : List UInt8 := dkwX10_goes_11 ++ dktX10_goes_12
def dkwX10_goes_10 : List UInt8 := [96, 167, 0, 4, 28, 61, 3, 54, 8, 21, 8, 42, 180, 0, 214, 162, 0, 86, 21, 5, 21, 8, 122, 4]
abbrev dktX10_goes_10 : List UInt8 := dkwX10_goes_10 ++ dktX10_goes_11
def dkwX10_goes_9 : List UInt8 := [180, 0, 111, 21, 4, 21, 6, 21, 7, 96, 79, 21, 6, 21, 7, 96, 28, 164, 0, 11, 21, 6, 21, 7]
abbrev dktX10_goes_9 : List UInt8 := dkwX10_goes_9 ++ dktX10_goes_10
def dkwX10_goes_8 : List UInt8 := [21, 7, 42, 180, 0, 120, 21, 4, 46, 96, 54, 7, 42, 180, 0, 105, 29, 21, 6, 21, 7, 96, 79, 42]
abbrev dktX10_goes_8 : List UInt8 := dkwX10_goes_8 ++ dktX10_goes_9
def dkwX10_goes_7 : List UInt8 := [180, 0, 69, 5, 46, 162, 0, 19, 21, 7, 5, 104, 54, 7, 42, 89, 180, 1, 131, 4, 96, 181, 1, 131]
abbrev dktX10_goes_7 : List UInt8 := dkwX10_goes_7 ++ dktX10_goes_8
def dkwX10_goes_6 : List UInt8 := [167, 0, 197, 42, 21, 4, 21, 5, 21, 6, 182, 1, 140, 54, 7, 27, 153, 0, 32, 42, 182, 1, 143, 42]
abbrev dktX10_goes_6 : List UInt8 := dkwX10_goes_6 ++ dktX10_goes_7
def dkwX10_goes_5 : List UInt8 := [2, 54, 6, 42, 180, 0, 102, 29, 21, 6, 79, 42, 180, 0, 105, 29, 2, 79, 21, 6, 2, 160, 0, 6]
abbrev dktX10_goes_5 : List UInt8 := dkwX10_goes_5 ++ dktX10_goes_6
def dkwX10_goes_4 : List UInt8 := [54, 5, 42, 21, 4, 21, 5, 182, 1, 134, 153, 0, 14, 42, 21, 4, 21, 5, 182, 1, 137, 167, 0, 4]
abbrev dktX10_goes_4 : List UInt8 := dkwX10_goes_4 ++ dktX10_goes_5
def dkwX10_goes_3 : List UInt8 := [162, 1, 18, 42, 180, 0, 93, 5, 29, 104, 46, 54, 4, 42, 180, 0, 93, 5, 29, 104, 4, 96, 46]
abbrev dktX10_goes_3 : List UInt8 := dkwX10_goes_3 ++ dktX10_goes_4
def dkwX10_goes_2 : List UInt8 := [28, 2, 79, 132, 2, 1, 167, 255, 240, 42, 3, 181, 1, 131, 3, 61, 3, 62, 29, 42, 180, 0, 236]
abbrev dktX10_goes_2 : List UInt8 := dkwX10_goes_2 ++ dktX10_goes_3
def dkwX10_goes_1 : List UInt8 := [180, 0, 117, 28, 3, 79, 132, 2, 1, 167, 255, 227, 3, 61, 28, 16, 12, 162, 0, 16, 42, 180, 0, 111]
abbrev dktX10_goes_1 : List UInt8 := dkwX10_goes_1 ++ dktX10_goes_2
def dkwX10_goes_0 : List UInt8 := [3, 61, 28, 7, 162, 0, 30, 42, 180, 0, 108, 28, 3, 79, 42, 180, 0, 114, 28, 3, 79, 42]
abbrev dktX10_goes_0 : List UInt8 := dkwX10_goes_0 ++ dktX10_goes_1
theorem dksX10_goes_0 : cX10_goes.data.toList.drop 0 = dktX10_goes_0 := by decide +kernel
theorem dksX10_goes_1 : cX10_goes.data.toList.drop 22 = dktX10_goes_1 := dk_seg dksX10_goes_0 22 rfl rfl
theorem dksX10_goes_2 : cX10_goes.data.toList.drop 46 = dktX10_goes_2 := dk_seg dksX10_goes_1 24 rfl rfl
theorem dksX10_goes_3 : cX10_goes.data.toList.drop 69 = dktX10_goes_3 := dk_seg dksX10_goes_2 23 rfl rfl
theorem dksX10_goes_4 : cX10_goes.data.toList.drop 92 = dktX10_goes_4 := dk_seg dksX10_goes_3 23 rfl rfl
theorem dksX10_goes_5 : cX10_goes.data.toList.drop 116 = dktX10_goes_5 := dk_seg dksX10_goes_4 24 rfl rfl
theorem dksX10_goes_6 : cX10_goes.data.toList.drop 140 = dktX10_goes_6 := dk_seg dksX10_goes_5 24 rfl rfl
theorem dksX10_goes_7 : cX10_goes.data.toList.drop 164 = dktX10_goes_7 := dk_seg dksX10_goes_6 24 rfl rfl
theorem dksX10_goes_8 : cX10_goes.data.toList.drop 188 = dktX10_goes_8 := dk_seg dksX10_goes_7 24 rfl rfl
theorem dksX10_goes_9 : cX10_goes.data.toList.drop 212 = dktX10_goes_9 := dk_seg dksX10_goes_8 24 rfl rfl
theorem dksX10_goes_10 : cX10_goes.data.toList.drop 236 = dktX10_goes_10 := dk_seg dksX10_goes_9 24 rfl rfl
theorem dksX10_goes_11 : cX10_goes.data.toList.drop 260 = dktX10_goes_11 := dk_seg dksX10_goes_10 24 rfl rfl
theorem dksX10_goes_12 : cX10_goes.data.toList.drop 283 = dktX10_goes_12 := dk_seg dksX10_goes_11 23 rfl rfl
theorem dksX10_goes_13 : cX10_goes.data.toList.drop 307 = dktX10_goes_13 := dk_seg dksX10_goes_12 24 rfl rfl
theorem dksX10_goes_14 : cX10_goes.data.toList.drop 331 = dktX10_goes_14 := dk_seg dksX10_goes_13 24 rfl rfl
theorem dX10_goes_0 : decode cX10_goes 0 = .ok (.iconst 0, 1) := dk_3 (dk_at dksX10_goes_0 0 rfl rfl)
theorem dX10_goes_1 : decode cX10_goes 1 = .ok (.istore_n 2, 1) := dk_61 (dk_at dksX10_goes_0 1 rfl rfl)
theorem dX10_goes_2 : decode cX10_goes 2 = .ok (.iload_n 2, 1) := dk_28 (dk_at dksX10_goes_0 2 rfl rfl)
theorem dX10_goes_3 : decode cX10_goes 3 = .ok (.iconst 4, 1) := dk_7 (dk_at dksX10_goes_0 3 rfl rfl)
theorem dX10_goes_4 : decode cX10_goes 4 = .ok (.if_icmp .ge 30, 3) := dk_162 0 30 (dk_at dksX10_goes_0 4 rfl rfl)
theorem dX10_goes_7 : decode cX10_goes 7 = .ok (.aload_n 0, 1) := dk_42 (dk_at dksX10_goes_0 7 rfl rfl)
theorem dX10_goes_8 : decode cX10_goes 8 = .ok (.getfield 108, 3) := dk_180 0 108 (dk_at dksX10_goes_0 8 rfl rfl)
theorem dX10_goes_11 : decode cX10_goes 11 = .ok (.iload_n 2, 1) := dk_28 (dk_at dksX10_goes_0 11 rfl rfl)
theorem dX10_goes_12 : decode cX10_goes 12 = .ok (.iconst 0, 1) := dk_3 (dk_at dksX10_goes_0 12 rfl rfl)
theorem dX10_goes_13 : decode cX10_goes 13 = .ok (.iastore, 1) := dk_79 (dk_at dksX10_goes_0 13 rfl rfl)
theorem dX10_goes_14 : decode cX10_goes 14 = .ok (.aload_n 0, 1) := dk_42 (dk_at dksX10_goes_0 14 rfl rfl)
theorem dX10_goes_15 : decode cX10_goes 15 = .ok (.getfield 114, 3) := dk_180 0 114 (dk_at dksX10_goes_0 15 rfl rfl)
theorem dX10_goes_18 : decode cX10_goes 18 = .ok (.iload_n 2, 1) := dk_28 (dk_at dksX10_goes_0 18 rfl rfl)
theorem dX10_goes_19 : decode cX10_goes 19 = .ok (.iconst 0, 1) := dk_3 (dk_at dksX10_goes_0 19 rfl rfl)
theorem dX10_goes_20 : decode cX10_goes 20 = .ok (.iastore, 1) := dk_79 (dk_at dksX10_goes_0 20 rfl rfl)
theorem dX10_goes_21 : decode cX10_goes 21 = .ok (.aload_n 0, 1) := dk_42 (dk_at dksX10_goes_0 21 rfl rfl)
theorem dX10_goes_22 : decode cX10_goes 22 = .ok (.getfield 117, 3) := dk_180 0 117 (dk_at dksX10_goes_1 0 rfl rfl)
theorem dX10_goes_25 : decode cX10_goes 25 = .ok (.iload_n 2, 1) := dk_28 (dk_at dksX10_goes_1 3 rfl rfl)
theorem dX10_goes_26 : decode cX10_goes 26 = .ok (.iconst 0, 1) := dk_3 (dk_at dksX10_goes_1 4 rfl rfl)
theorem dX10_goes_27 : decode cX10_goes 27 = .ok (.iastore, 1) := dk_79 (dk_at dksX10_goes_1 5 rfl rfl)
theorem dX10_goes_28 : decode cX10_goes 28 = .ok (.iinc 2 1, 3) := dk_132 2 1 (dk_at dksX10_goes_1 6 rfl rfl)
theorem dX10_goes_31 : decode cX10_goes 31 = .ok (.goto (-29), 3) := dk_167 255 227 (dk_at dksX10_goes_1 9 rfl rfl)
theorem dX10_goes_34 : decode cX10_goes 34 = .ok (.iconst 0, 1) := dk_3 (dk_at dksX10_goes_1 12 rfl rfl)
theorem dX10_goes_35 : decode cX10_goes 35 = .ok (.istore_n 2, 1) := dk_61 (dk_at dksX10_goes_1 13 rfl rfl)
theorem dX10_goes_36 : decode cX10_goes 36 = .ok (.iload_n 2, 1) := dk_28 (dk_at dksX10_goes_1 14 rfl rfl)
theorem dX10_goes_37 : decode cX10_goes 37 = .ok (.bipush 12, 2) := dk_16 12 (dk_at dksX10_goes_1 15 rfl rfl)
theorem dX10_goes_39 : decode cX10_goes 39 = .ok (.if_icmp .ge 16, 3) := dk_162 0 16 (dk_at dksX10_goes_1 17 rfl rfl)
theorem dX10_goes_42 : decode cX10_goes 42 = .ok (.aload_n 0, 1) := dk_42 (dk_at dksX10_goes_1 20 rfl rfl)
theorem dX10_goes_43 : decode cX10_goes 43 = .ok (.getfield 111, 3) := dk_180 0 111 (dk_at dksX10_goes_1 21 rfl rfl)
theorem dX10_goes_46 : decode cX10_goes 46 = .ok (.iload_n 2, 1) := dk_28 (dk_at dksX10_goes_2 0 rfl rfl)
theorem dX10_goes_47 : decode cX10_goes 47 = .ok (.iconst (-1), 1) := dk_2 (dk_at dksX10_goes_2 1 rfl rfl)
theorem dX10_goes_48 : decode cX10_goes 48 = .ok (.iastore, 1) := dk_79 (dk_at dksX10_goes_2 2 rfl rfl)
theorem dX10_goes_49 : decode cX10_goes 49 = .ok (.iinc 2 1, 3) := dk_132 2 1 (dk_at dksX10_goes_2 3 rfl rfl)
theorem dX10_goes_52 : decode cX10_goes 52 = .ok (.goto (-16), 3) := dk_167 255 240 (dk_at dksX10_goes_2 6 rfl rfl)
theorem dX10_goes_55 : decode cX10_goes 55 = .ok (.aload_n 0, 1) := dk_42 (dk_at dksX10_goes_2 9 rfl rfl)
theorem dX10_goes_56 : decode cX10_goes 56 = .ok (.iconst 0, 1) := dk_3 (dk_at dksX10_goes_2 10 rfl rfl)
theorem dX10_goes_57 : decode cX10_goes 57 = .ok (.putfield 387, 3) := dk_181 1 131 (dk_at dksX10_goes_2 11 rfl rfl)
theorem dX10_goes_60 : decode cX10_goes 60 = .ok (.iconst 0, 1) := dk_3 (dk_at dksX10_goes_2 14 rfl rfl)
theorem dX10_goes_61 : decode cX10_goes 61 = .ok (.istore_n 2, 1) := dk_61 (dk_at dksX10_goes_2 15 rfl rfl)
theorem dX10_goes_62 : decode cX10_goes 62 = .ok (.iconst 0, 1) := dk_3 (dk_at dksX10_goes_2 16 rfl rfl)
theorem dX10_goes_63 : decode cX10_goes 63 = .ok (.istore_n 3, 1) := dk_62 (dk_at dksX10_goes_2 17 rfl rfl)
theorem dX10_goes_64 : decode cX10_goes 64 = .ok (.iload_n 3, 1) := dk_29 (dk_at dksX10_goes_2 18 rfl rfl)
theorem dX10_goes_65 : decode cX10_goes 65 = .ok (.aload_n 0, 1) := dk_42 (dk_at dksX10_goes_2 19 rfl rfl)
theorem dX10_goes_66 : decode cX10_goes 66 = .ok (.getfield 236, 3) := dk_180 0 236 (dk_at dksX10_goes_2 20 rfl rfl)
theorem dX10_goes_69 : decode cX10_goes 69 = .ok (.if_icmp .ge 274, 3) := dk_162 1 18 (dk_at dksX10_goes_3 0 rfl rfl)
theorem dX10_goes_72 : decode cX10_goes 72 = .ok (.aload_n 0, 1) := dk_42 (dk_at dksX10_goes_3 3 rfl rfl)
theorem dX10_goes_73 : decode cX10_goes 73 = .ok (.getfield 93, 3) := dk_180 0 93 (dk_at dksX10_goes_3 4 rfl rfl)
theorem dX10_goes_76 : decode cX10_goes 76 = .ok (.iconst 2, 1) := dk_5 (dk_at dksX10_goes_3 7 rfl rfl)
theorem dX10_goes_77 : decode cX10_goes 77 = .ok (.iload_n 3, 1) := dk_29 (dk_at dksX10_goes_3 8 rfl rfl)
theorem dX10_goes_78 : decode cX10_goes 78 = .ok (.imul, 1) := dk_104 (dk_at dksX10_goes_3 9 rfl rfl)
theorem dX10_goes_79 : decode cX10_goes 79 = .ok (.iaload, 1) := dk_46 (dk_at dksX10_goes_3 10 rfl rfl)
theorem dX10_goes_80 : decode cX10_goes 80 = .ok (.istore 4, 2) := dk_54 4 (dk_at dksX10_goes_3 11 rfl rfl)
theorem dX10_goes_82 : decode cX10_goes 82 = .ok (.aload_n 0, 1) := dk_42 (dk_at dksX10_goes_3 13 rfl rfl)
theorem dX10_goes_83 : decode cX10_goes 83 = .ok (.getfield 93, 3) := dk_180 0 93 (dk_at dksX10_goes_3 14 rfl rfl)
theorem dX10_goes_86 : decode cX10_goes 86 = .ok (.iconst 2, 1) := dk_5 (dk_at dksX10_goes_3 17 rfl rfl)
theorem dX10_goes_87 : decode cX10_goes 87 = .ok (.iload_n 3, 1) := dk_29 (dk_at dksX10_goes_3 18 rfl rfl)
theorem dX10_goes_88 : decode cX10_goes 88 = .ok (.imul, 1) := dk_104 (dk_at dksX10_goes_3 19 rfl rfl)
theorem dX10_goes_89 : decode cX10_goes 89 = .ok (.iconst 1, 1) := dk_4 (dk_at dksX10_goes_3 20 rfl rfl)
theorem dX10_goes_90 : decode cX10_goes 90 = .ok (.iadd, 1) := dk_96 (dk_at dksX10_goes_3 21 rfl rfl)
theorem dX10_goes_91 : decode cX10_goes 91 = .ok (.iaload, 1) := dk_46 (dk_at dksX10_goes_3 22 rfl rfl)
theorem dX10_goes_92 : decode cX10_goes 92 = .ok (.istore 5, 2) := dk_54 5 (dk_at dksX10_goes_4 0 rfl rfl)
theorem dX10_goes_94 : decode cX10_goes 94 = .ok (.aload_n 0, 1) := dk_42 (dk_at dksX10_goes_4 2 rfl rfl)
theorem dX10_goes_95 : decode cX10_goes 95 = .ok (.iload 4, 2) := dk_21 4 (dk_at dksX10_goes_4 3 rfl rfl)
theorem dX10_goes_97 : decode cX10_goes 97 = .ok (.iload 5, 2) := dk_21 5 (dk_at dksX10_goes_4 5 rfl rfl)
theorem dX10_goes_99 : decode cX10_goes 99 = .ok (.invokevirtual 390, 3) := dk_182 1 134 (dk_at dksX10_goes_4 7 rfl rfl)
theorem dX10_goes_102 : decode cX10_goes 102 = .ok (.ifCond .eq 14, 3) := dk_153 0 14 (dk_at dksX10_goes_4 10 rfl rfl)
theorem dX10_goes_105 : decode cX10_goes 105 = .ok (.aload_n 0, 1) := dk_42 (dk_at dksX10_goes_4 13 rfl rfl)
theorem dX10_goes_106 : decode cX10_goes 106 = .ok (.iload 4, 2) := dk_21 4 (dk_at dksX10_goes_4 14 rfl rfl)
theorem dX10_goes_108 : decode cX10_goes 108 = .ok (.iload 5, 2) := dk_21 5 (dk_at dksX10_goes_4 16 rfl rfl)
theorem dX10_goes_110 : decode cX10_goes 110 = .ok (.invokevirtual 393, 3) := dk_182 1 137 (dk_at dksX10_goes_4 18 rfl rfl)
theorem dX10_goes_113 : decode cX10_goes 113 = .ok (.goto 4, 3) := dk_167 0 4 (dk_at dksX10_goes_4 21 rfl rfl)
theorem dX10_goes_116 : decode cX10_goes 116 = .ok (.iconst (-1), 1) := dk_2 (dk_at dksX10_goes_5 0 rfl rfl)
theorem dX10_goes_117 : decode cX10_goes 117 = .ok (.istore 6, 2) := dk_54 6 (dk_at dksX10_goes_5 1 rfl rfl)
theorem dX10_goes_119 : decode cX10_goes 119 = .ok (.aload_n 0, 1) := dk_42 (dk_at dksX10_goes_5 3 rfl rfl)
theorem dX10_goes_120 : decode cX10_goes 120 = .ok (.getfield 102, 3) := dk_180 0 102 (dk_at dksX10_goes_5 4 rfl rfl)
theorem dX10_goes_123 : decode cX10_goes 123 = .ok (.iload_n 3, 1) := dk_29 (dk_at dksX10_goes_5 7 rfl rfl)
theorem dX10_goes_124 : decode cX10_goes 124 = .ok (.iload 6, 2) := dk_21 6 (dk_at dksX10_goes_5 8 rfl rfl)
theorem dX10_goes_126 : decode cX10_goes 126 = .ok (.iastore, 1) := dk_79 (dk_at dksX10_goes_5 10 rfl rfl)
theorem dX10_goes_127 : decode cX10_goes 127 = .ok (.aload_n 0, 1) := dk_42 (dk_at dksX10_goes_5 11 rfl rfl)
theorem dX10_goes_128 : decode cX10_goes 128 = .ok (.getfield 105, 3) := dk_180 0 105 (dk_at dksX10_goes_5 12 rfl rfl)
theorem dX10_goes_131 : decode cX10_goes 131 = .ok (.iload_n 3, 1) := dk_29 (dk_at dksX10_goes_5 15 rfl rfl)
theorem dX10_goes_132 : decode cX10_goes 132 = .ok (.iconst (-1), 1) := dk_2 (dk_at dksX10_goes_5 16 rfl rfl)
theorem dX10_goes_133 : decode cX10_goes 133 = .ok (.iastore, 1) := dk_79 (dk_at dksX10_goes_5 17 rfl rfl)
theorem dX10_goes_134 : decode cX10_goes 134 = .ok (.iload 6, 2) := dk_21 6 (dk_at dksX10_goes_5 18 rfl rfl)
theorem dX10_goes_136 : decode cX10_goes 136 = .ok (.iconst (-1), 1) := dk_2 (dk_at dksX10_goes_5 20 rfl rfl)
theorem dX10_goes_137 : decode cX10_goes 137 = .ok (.if_icmp .ne 6, 3) := dk_160 0 6 (dk_at dksX10_goes_5 21 rfl rfl)
theorem dX10_goes_140 : decode cX10_goes 140 = .ok (.goto 197, 3) := dk_167 0 197 (dk_at dksX10_goes_6 0 rfl rfl)
theorem dX10_goes_143 : decode cX10_goes 143 = .ok (.aload_n 0, 1) := dk_42 (dk_at dksX10_goes_6 3 rfl rfl)
theorem dX10_goes_144 : decode cX10_goes 144 = .ok (.iload 4, 2) := dk_21 4 (dk_at dksX10_goes_6 4 rfl rfl)
theorem dX10_goes_146 : decode cX10_goes 146 = .ok (.iload 5, 2) := dk_21 5 (dk_at dksX10_goes_6 6 rfl rfl)
theorem dX10_goes_148 : decode cX10_goes 148 = .ok (.iload 6, 2) := dk_21 6 (dk_at dksX10_goes_6 8 rfl rfl)
theorem dX10_goes_150 : decode cX10_goes 150 = .ok (.invokevirtual 396, 3) := dk_182 1 140 (dk_at dksX10_goes_6 10 rfl rfl)
theorem dX10_goes_153 : decode cX10_goes 153 = .ok (.istore 7, 2) := dk_54 7 (dk_at dksX10_goes_6 13 rfl rfl)
theorem dX10_goes_155 : decode cX10_goes 155 = .ok (.iload_n 1, 1) := dk_27 (dk_at dksX10_goes_6 15 rfl rfl)
theorem dX10_goes_156 : decode cX10_goes 156 = .ok (.ifCond .eq 32, 3) := dk_153 0 32 (dk_at dksX10_goes_6 16 rfl rfl)
theorem dX10_goes_159 : decode cX10_goes 159 = .ok (.aload_n 0, 1) := dk_42 (dk_at dksX10_goes_6 19 rfl rfl)
theorem dX10_goes_160 : decode cX10_goes 160 = .ok (.invokevirtual 399, 3) := dk_182 1 143 (dk_at dksX10_goes_6 20 rfl rfl)
theorem dX10_goes_163 : decode cX10_goes 163 = .ok (.aload_n 0, 1) := dk_42 (dk_at dksX10_goes_6 23 rfl rfl)
theorem dX10_goes_164 : decode cX10_goes 164 = .ok (.getfield 69, 3) := dk_180 0 69 (dk_at dksX10_goes_7 0 rfl rfl)
theorem dX10_goes_167 : decode cX10_goes 167 = .ok (.iconst 2, 1) := dk_5 (dk_at dksX10_goes_7 3 rfl rfl)
theorem dX10_goes_168 : decode cX10_goes 168 = .ok (.iaload, 1) := dk_46 (dk_at dksX10_goes_7 4 rfl rfl)
theorem dX10_goes_169 : decode cX10_goes 169 = .ok (.if_icmp .ge 19, 3) := dk_162 0 19 (dk_at dksX10_goes_7 5 rfl rfl)
theorem dX10_goes_172 : decode cX10_goes 172 = .ok (.iload 7, 2) := dk_21 7 (dk_at dksX10_goes_7 8 rfl rfl)
theorem dX10_goes_174 : decode cX10_goes 174 = .ok (.iconst 2, 1) := dk_5 (dk_at dksX10_goes_7 10 rfl rfl)
theorem dX10_goes_175 : decode cX10_goes 175 = .ok (.imul, 1) := dk_104 (dk_at dksX10_goes_7 11 rfl rfl)
theorem dX10_goes_176 : decode cX10_goes 176 = .ok (.istore 7, 2) := dk_54 7 (dk_at dksX10_goes_7 12 rfl rfl)
theorem dX10_goes_178 : decode cX10_goes 178 = .ok (.aload_n 0, 1) := dk_42 (dk_at dksX10_goes_7 14 rfl rfl)
theorem dX10_goes_179 : decode cX10_goes 179 = .ok (.dup, 1) := dk_89 (dk_at dksX10_goes_7 15 rfl rfl)
theorem dX10_goes_180 : decode cX10_goes 180 = .ok (.getfield 387, 3) := dk_180 1 131 (dk_at dksX10_goes_7 16 rfl rfl)
theorem dX10_goes_183 : decode cX10_goes 183 = .ok (.iconst 1, 1) := dk_4 (dk_at dksX10_goes_7 19 rfl rfl)
theorem dX10_goes_184 : decode cX10_goes 184 = .ok (.iadd, 1) := dk_96 (dk_at dksX10_goes_7 20 rfl rfl)
theorem dX10_goes_185 : decode cX10_goes 185 = .ok (.putfield 387, 3) := dk_181 1 131 (dk_at dksX10_goes_7 21 rfl rfl)
theorem dX10_goes_188 : decode cX10_goes 188 = .ok (.iload 7, 2) := dk_21 7 (dk_at dksX10_goes_8 0 rfl rfl)
theorem dX10_goes_190 : decode cX10_goes 190 = .ok (.aload_n 0, 1) := dk_42 (dk_at dksX10_goes_8 2 rfl rfl)
theorem dX10_goes_191 : decode cX10_goes 191 = .ok (.getfield 120, 3) := dk_180 0 120 (dk_at dksX10_goes_8 3 rfl rfl)
theorem dX10_goes_194 : decode cX10_goes 194 = .ok (.iload 4, 2) := dk_21 4 (dk_at dksX10_goes_8 6 rfl rfl)
theorem dX10_goes_196 : decode cX10_goes 196 = .ok (.iaload, 1) := dk_46 (dk_at dksX10_goes_8 8 rfl rfl)
theorem dX10_goes_197 : decode cX10_goes 197 = .ok (.iadd, 1) := dk_96 (dk_at dksX10_goes_8 9 rfl rfl)
theorem dX10_goes_198 : decode cX10_goes 198 = .ok (.istore 7, 2) := dk_54 7 (dk_at dksX10_goes_8 10 rfl rfl)
theorem dX10_goes_200 : decode cX10_goes 200 = .ok (.aload_n 0, 1) := dk_42 (dk_at dksX10_goes_8 12 rfl rfl)
theorem dX10_goes_201 : decode cX10_goes 201 = .ok (.getfield 105, 3) := dk_180 0 105 (dk_at dksX10_goes_8 13 rfl rfl)
theorem dX10_goes_204 : decode cX10_goes 204 = .ok (.iload_n 3, 1) := dk_29 (dk_at dksX10_goes_8 16 rfl rfl)
theorem dX10_goes_205 : decode cX10_goes 205 = .ok (.iload 6, 2) := dk_21 6 (dk_at dksX10_goes_8 17 rfl rfl)
theorem dX10_goes_207 : decode cX10_goes 207 = .ok (.iload 7, 2) := dk_21 7 (dk_at dksX10_goes_8 19 rfl rfl)
theorem dX10_goes_209 : decode cX10_goes 209 = .ok (.iadd, 1) := dk_96 (dk_at dksX10_goes_8 21 rfl rfl)
theorem dX10_goes_210 : decode cX10_goes 210 = .ok (.iastore, 1) := dk_79 (dk_at dksX10_goes_8 22 rfl rfl)
theorem dX10_goes_211 : decode cX10_goes 211 = .ok (.aload_n 0, 1) := dk_42 (dk_at dksX10_goes_8 23 rfl rfl)
theorem dX10_goes_212 : decode cX10_goes 212 = .ok (.getfield 111, 3) := dk_180 0 111 (dk_at dksX10_goes_9 0 rfl rfl)
theorem dX10_goes_215 : decode cX10_goes 215 = .ok (.iload 4, 2) := dk_21 4 (dk_at dksX10_goes_9 3 rfl rfl)
theorem dX10_goes_217 : decode cX10_goes 217 = .ok (.iload 6, 2) := dk_21 6 (dk_at dksX10_goes_9 5 rfl rfl)
theorem dX10_goes_219 : decode cX10_goes 219 = .ok (.iload 7, 2) := dk_21 7 (dk_at dksX10_goes_9 7 rfl rfl)
theorem dX10_goes_221 : decode cX10_goes 221 = .ok (.iadd, 1) := dk_96 (dk_at dksX10_goes_9 9 rfl rfl)
theorem dX10_goes_222 : decode cX10_goes 222 = .ok (.iastore, 1) := dk_79 (dk_at dksX10_goes_9 10 rfl rfl)
theorem dX10_goes_223 : decode cX10_goes 223 = .ok (.iload 6, 2) := dk_21 6 (dk_at dksX10_goes_9 11 rfl rfl)
theorem dX10_goes_225 : decode cX10_goes 225 = .ok (.iload 7, 2) := dk_21 7 (dk_at dksX10_goes_9 13 rfl rfl)
theorem dX10_goes_227 : decode cX10_goes 227 = .ok (.iadd, 1) := dk_96 (dk_at dksX10_goes_9 15 rfl rfl)
theorem dX10_goes_228 : decode cX10_goes 228 = .ok (.iload_n 2, 1) := dk_28 (dk_at dksX10_goes_9 16 rfl rfl)
theorem dX10_goes_229 : decode cX10_goes 229 = .ok (.if_icmp .le 11, 3) := dk_164 0 11 (dk_at dksX10_goes_9 17 rfl rfl)
theorem dX10_goes_232 : decode cX10_goes 232 = .ok (.iload 6, 2) := dk_21 6 (dk_at dksX10_goes_9 20 rfl rfl)
theorem dX10_goes_234 : decode cX10_goes 234 = .ok (.iload 7, 2) := dk_21 7 (dk_at dksX10_goes_9 22 rfl rfl)
theorem dX10_goes_236 : decode cX10_goes 236 = .ok (.iadd, 1) := dk_96 (dk_at dksX10_goes_10 0 rfl rfl)
theorem dX10_goes_237 : decode cX10_goes 237 = .ok (.goto 4, 3) := dk_167 0 4 (dk_at dksX10_goes_10 1 rfl rfl)
theorem dX10_goes_240 : decode cX10_goes 240 = .ok (.iload_n 2, 1) := dk_28 (dk_at dksX10_goes_10 4 rfl rfl)
theorem dX10_goes_241 : decode cX10_goes 241 = .ok (.istore_n 2, 1) := dk_61 (dk_at dksX10_goes_10 5 rfl rfl)
theorem dX10_goes_242 : decode cX10_goes 242 = .ok (.iconst 0, 1) := dk_3 (dk_at dksX10_goes_10 6 rfl rfl)
theorem dX10_goes_243 : decode cX10_goes 243 = .ok (.istore 8, 2) := dk_54 8 (dk_at dksX10_goes_10 7 rfl rfl)
theorem dX10_goes_245 : decode cX10_goes 245 = .ok (.iload 8, 2) := dk_21 8 (dk_at dksX10_goes_10 9 rfl rfl)
theorem dX10_goes_247 : decode cX10_goes 247 = .ok (.aload_n 0, 1) := dk_42 (dk_at dksX10_goes_10 11 rfl rfl)
theorem dX10_goes_248 : decode cX10_goes 248 = .ok (.getfield 214, 3) := dk_180 0 214 (dk_at dksX10_goes_10 12 rfl rfl)
theorem dX10_goes_251 : decode cX10_goes 251 = .ok (.if_icmp .ge 86, 3) := dk_162 0 86 (dk_at dksX10_goes_10 15 rfl rfl)
theorem dX10_goes_254 : decode cX10_goes 254 = .ok (.iload 5, 2) := dk_21 5 (dk_at dksX10_goes_10 18 rfl rfl)
theorem dX10_goes_256 : decode cX10_goes 256 = .ok (.iload 8, 2) := dk_21 8 (dk_at dksX10_goes_10 20 rfl rfl)
theorem dX10_goes_258 : decode cX10_goes 258 = .ok (.ishr, 1) := dk_122 (dk_at dksX10_goes_10 22 rfl rfl)
theorem dX10_goes_259 : decode cX10_goes 259 = .ok (.iconst 1, 1) := dk_4 (dk_at dksX10_goes_10 23 rfl rfl)
theorem dX10_goes_260 : decode cX10_goes 260 = .ok (.iand, 1) := dk_126 (dk_at dksX10_goes_11 0 rfl rfl)
theorem dX10_goes_261 : decode cX10_goes 261 = .ok (.ifCond .ne 6, 3) := dk_154 0 6 (dk_at dksX10_goes_11 1 rfl rfl)
theorem dX10_goes_264 : decode cX10_goes 264 = .ok (.goto 67, 3) := dk_167 0 67 (dk_at dksX10_goes_11 4 rfl rfl)
theorem dX10_goes_267 : decode cX10_goes 267 = .ok (.aload_n 0, 1) := dk_42 (dk_at dksX10_goes_11 7 rfl rfl)
theorem dX10_goes_268 : decode cX10_goes 268 = .ok (.getfield 108, 3) := dk_180 0 108 (dk_at dksX10_goes_11 8 rfl rfl)
theorem dX10_goes_271 : decode cX10_goes 271 = .ok (.iload 8, 2) := dk_21 8 (dk_at dksX10_goes_11 11 rfl rfl)
theorem dX10_goes_273 : decode cX10_goes 273 = .ok (.iload 6, 2) := dk_21 6 (dk_at dksX10_goes_11 13 rfl rfl)
theorem dX10_goes_275 : decode cX10_goes 275 = .ok (.iload 7, 2) := dk_21 7 (dk_at dksX10_goes_11 15 rfl rfl)
theorem dX10_goes_277 : decode cX10_goes 277 = .ok (.iadd, 1) := dk_96 (dk_at dksX10_goes_11 17 rfl rfl)
theorem dX10_goes_278 : decode cX10_goes 278 = .ok (.iastore, 1) := dk_79 (dk_at dksX10_goes_11 18 rfl rfl)
theorem dX10_goes_279 : decode cX10_goes 279 = .ok (.aload_n 0, 1) := dk_42 (dk_at dksX10_goes_11 19 rfl rfl)
theorem dX10_goes_280 : decode cX10_goes 280 = .ok (.getfield 117, 3) := dk_180 0 117 (dk_at dksX10_goes_11 20 rfl rfl)
theorem dX10_goes_283 : decode cX10_goes 283 = .ok (.iload 8, 2) := dk_21 8 (dk_at dksX10_goes_12 0 rfl rfl)
theorem dX10_goes_285 : decode cX10_goes 285 = .ok (.dup2, 1) := dk_92 (dk_at dksX10_goes_12 2 rfl rfl)
theorem dX10_goes_286 : decode cX10_goes 286 = .ok (.iaload, 1) := dk_46 (dk_at dksX10_goes_12 3 rfl rfl)
theorem dX10_goes_287 : decode cX10_goes 287 = .ok (.iload 7, 2) := dk_21 7 (dk_at dksX10_goes_12 4 rfl rfl)
theorem dX10_goes_289 : decode cX10_goes 289 = .ok (.iadd, 1) := dk_96 (dk_at dksX10_goes_12 6 rfl rfl)
theorem dX10_goes_290 : decode cX10_goes 290 = .ok (.iastore, 1) := dk_79 (dk_at dksX10_goes_12 7 rfl rfl)
theorem dX10_goes_291 : decode cX10_goes 291 = .ok (.aload_n 0, 1) := dk_42 (dk_at dksX10_goes_12 8 rfl rfl)
theorem dX10_goes_292 : decode cX10_goes 292 = .ok (.getfield 114, 3) := dk_180 0 114 (dk_at dksX10_goes_12 9 rfl rfl)
theorem dX10_goes_295 : decode cX10_goes 295 = .ok (.iload 8, 2) := dk_21 8 (dk_at dksX10_goes_12 12 rfl rfl)
theorem dX10_goes_297 : decode cX10_goes 297 = .ok (.dup2, 1) := dk_92 (dk_at dksX10_goes_12 14 rfl rfl)
theorem dX10_goes_298 : decode cX10_goes 298 = .ok (.iaload, 1) := dk_46 (dk_at dksX10_goes_12 15 rfl rfl)
theorem dX10_goes_299 : decode cX10_goes 299 = .ok (.aload_n 0, 1) := dk_42 (dk_at dksX10_goes_12 16 rfl rfl)
theorem dX10_goes_300 : decode cX10_goes 300 = .ok (.getfield 44, 3) := dk_180 0 44 (dk_at dksX10_goes_12 17 rfl rfl)
theorem dX10_goes_303 : decode cX10_goes 303 = .ok (.iconst 5, 1) := dk_8 (dk_at dksX10_goes_12 20 rfl rfl)
theorem dX10_goes_304 : decode cX10_goes 304 = .ok (.iload 4, 2) := dk_21 4 (dk_at dksX10_goes_12 21 rfl rfl)
theorem dX10_goes_306 : decode cX10_goes 306 = .ok (.imul, 1) := dk_104 (dk_at dksX10_goes_12 23 rfl rfl)
theorem dX10_goes_307 : decode cX10_goes 307 = .ok (.iconst 1, 1) := dk_4 (dk_at dksX10_goes_13 0 rfl rfl)
theorem dX10_goes_308 : decode cX10_goes 308 = .ok (.iadd, 1) := dk_96 (dk_at dksX10_goes_13 1 rfl rfl)
theorem dX10_goes_309 : decode cX10_goes 309 = .ok (.iaload, 1) := dk_46 (dk_at dksX10_goes_13 2 rfl rfl)
theorem dX10_goes_310 : decode cX10_goes 310 = .ok (.iconst 1, 1) := dk_4 (dk_at dksX10_goes_13 3 rfl rfl)
theorem dX10_goes_311 : decode cX10_goes 311 = .ok (.if_icmp .ne 17, 3) := dk_160 0 17 (dk_at dksX10_goes_13 4 rfl rfl)
theorem dX10_goes_314 : decode cX10_goes 314 = .ok (.aload_n 0, 1) := dk_42 (dk_at dksX10_goes_13 7 rfl rfl)
theorem dX10_goes_315 : decode cX10_goes 315 = .ok (.iload 6, 2) := dk_21 6 (dk_at dksX10_goes_13 8 rfl rfl)
theorem dX10_goes_317 : decode cX10_goes 317 = .ok (.iload 6, 2) := dk_21 6 (dk_at dksX10_goes_13 10 rfl rfl)
theorem dX10_goes_319 : decode cX10_goes 319 = .ok (.iload 7, 2) := dk_21 7 (dk_at dksX10_goes_13 12 rfl rfl)
theorem dX10_goes_321 : decode cX10_goes 321 = .ok (.iadd, 1) := dk_96 (dk_at dksX10_goes_13 14 rfl rfl)
theorem dX10_goes_322 : decode cX10_goes 322 = .ok (.invokevirtual 402, 3) := dk_182 1 146 (dk_at dksX10_goes_13 15 rfl rfl)
theorem dX10_goes_325 : decode cX10_goes 325 = .ok (.goto 4, 3) := dk_167 0 4 (dk_at dksX10_goes_13 18 rfl rfl)
theorem dX10_goes_328 : decode cX10_goes 328 = .ok (.iconst 0, 1) := dk_3 (dk_at dksX10_goes_13 21 rfl rfl)
theorem dX10_goes_329 : decode cX10_goes 329 = .ok (.iadd, 1) := dk_96 (dk_at dksX10_goes_13 22 rfl rfl)
theorem dX10_goes_330 : decode cX10_goes 330 = .ok (.iastore, 1) := dk_79 (dk_at dksX10_goes_13 23 rfl rfl)
theorem dX10_goes_331 : decode cX10_goes 331 = .ok (.iinc 8 1, 3) := dk_132 8 1 (dk_at dksX10_goes_14 0 rfl rfl)
theorem dX10_goes_334 : decode cX10_goes 334 = .ok (.goto (-89), 3) := dk_167 255 167 (dk_at dksX10_goes_14 3 rfl rfl)
theorem dX10_goes_337 : decode cX10_goes 337 = .ok (.iinc 3 1, 3) := dk_132 3 1 (dk_at dksX10_goes_14 6 rfl rfl)
theorem dX10_goes_340 : decode cX10_goes 340 = .ok (.goto (-276), 3) := dk_167 254 236 (dk_at dksX10_goes_14 9 rfl rfl)
theorem dX10_goes_343 : decode cX10_goes 343 = .ok (.iload_n 2, 1) := dk_28 (dk_at dksX10_goes_14 12 rfl rfl)
theorem dX10_goes_344 : decode cX10_goes 344 = .ok (.ireturn, 1) := dk_172 (dk_at dksX10_goes_14 13 rfl rfl)
abbrev cX10_mayDo : ByteArray := prog_19_method_57_code
def yX10_mayDo : MethodName := ⟨RX10, "mayDo", "(II)Z"⟩
def dkwX10_mayDo_1 : List UInt8 := [180, 0, 44, 8, 27, 104, 6, 96, 46, 161, 0, 7, 4, 167, 0, 4, 3, 172]
abbrev dktX10_mayDo_1 : List UInt8 := dkwX10_mayDo_1 ++ []
def dkwX10_mayDo_0 : List UInt8 := [42, 28, 182, 1, 122, 42, 180, 0, 44, 8, 27, 104, 5, 96, 46, 160, 0, 25, 42, 28, 182, 1, 125, 42]
abbrev dktX10_mayDo_0 : List UInt8 := dkwX10_mayDo_0 ++ dktX10_mayDo_1
theorem dksX10_mayDo_0 : cX10_mayDo.data.toList.drop 0 = dktX10_mayDo_0 := by decide +kernel
theorem dksX10_mayDo_1 : cX10_mayDo.data.toList.drop 24 = dktX10_mayDo_1 := dk_seg dksX10_mayDo_0 24 rfl rfl
theorem dX10_mayDo_0 : decode cX10_mayDo 0 = .ok (.aload_n 0, 1) := dk_42 (dk_at dksX10_mayDo_0 0 rfl rfl)
theorem dX10_mayDo_1 : decode cX10_mayDo 1 = .ok (.iload_n 2, 1) := dk_28 (dk_at dksX10_mayDo_0 1 rfl rfl)
theorem dX10_mayDo_2 : decode cX10_mayDo 2 = .ok (.invokevirtual 378, 3) := dk_182 1 122 (dk_at dksX10_mayDo_0 2 rfl rfl)
theorem dX10_mayDo_5 : decode cX10_mayDo 5 = .ok (.aload_n 0, 1) := dk_42 (dk_at dksX10_mayDo_0 5 rfl rfl)
theorem dX10_mayDo_6 : decode cX10_mayDo 6 = .ok (.getfield 44, 3) := dk_180 0 44 (dk_at dksX10_mayDo_0 6 rfl rfl)
theorem dX10_mayDo_9 : decode cX10_mayDo 9 = .ok (.iconst 5, 1) := dk_8 (dk_at dksX10_mayDo_0 9 rfl rfl)
theorem dX10_mayDo_10 : decode cX10_mayDo 10 = .ok (.iload_n 1, 1) := dk_27 (dk_at dksX10_mayDo_0 10 rfl rfl)
theorem dX10_mayDo_11 : decode cX10_mayDo 11 = .ok (.imul, 1) := dk_104 (dk_at dksX10_mayDo_0 11 rfl rfl)
theorem dX10_mayDo_12 : decode cX10_mayDo 12 = .ok (.iconst 2, 1) := dk_5 (dk_at dksX10_mayDo_0 12 rfl rfl)
theorem dX10_mayDo_13 : decode cX10_mayDo 13 = .ok (.iadd, 1) := dk_96 (dk_at dksX10_mayDo_0 13 rfl rfl)
theorem dX10_mayDo_14 : decode cX10_mayDo 14 = .ok (.iaload, 1) := dk_46 (dk_at dksX10_mayDo_0 14 rfl rfl)
theorem dX10_mayDo_15 : decode cX10_mayDo 15 = .ok (.if_icmp .ne 25, 3) := dk_160 0 25 (dk_at dksX10_mayDo_0 15 rfl rfl)
theorem dX10_mayDo_18 : decode cX10_mayDo 18 = .ok (.aload_n 0, 1) := dk_42 (dk_at dksX10_mayDo_0 18 rfl rfl)
theorem dX10_mayDo_19 : decode cX10_mayDo 19 = .ok (.iload_n 2, 1) := dk_28 (dk_at dksX10_mayDo_0 19 rfl rfl)
theorem dX10_mayDo_20 : decode cX10_mayDo 20 = .ok (.invokevirtual 381, 3) := dk_182 1 125 (dk_at dksX10_mayDo_0 20 rfl rfl)
theorem dX10_mayDo_23 : decode cX10_mayDo 23 = .ok (.aload_n 0, 1) := dk_42 (dk_at dksX10_mayDo_0 23 rfl rfl)
theorem dX10_mayDo_24 : decode cX10_mayDo 24 = .ok (.getfield 44, 3) := dk_180 0 44 (dk_at dksX10_mayDo_1 0 rfl rfl)
theorem dX10_mayDo_27 : decode cX10_mayDo 27 = .ok (.iconst 5, 1) := dk_8 (dk_at dksX10_mayDo_1 3 rfl rfl)
theorem dX10_mayDo_28 : decode cX10_mayDo 28 = .ok (.iload_n 1, 1) := dk_27 (dk_at dksX10_mayDo_1 4 rfl rfl)
theorem dX10_mayDo_29 : decode cX10_mayDo 29 = .ok (.imul, 1) := dk_104 (dk_at dksX10_mayDo_1 5 rfl rfl)
theorem dX10_mayDo_30 : decode cX10_mayDo 30 = .ok (.iconst 3, 1) := dk_6 (dk_at dksX10_mayDo_1 6 rfl rfl)
theorem dX10_mayDo_31 : decode cX10_mayDo 31 = .ok (.iadd, 1) := dk_96 (dk_at dksX10_mayDo_1 7 rfl rfl)
theorem dX10_mayDo_32 : decode cX10_mayDo 32 = .ok (.iaload, 1) := dk_46 (dk_at dksX10_mayDo_1 8 rfl rfl)
theorem dX10_mayDo_33 : decode cX10_mayDo 33 = .ok (.if_icmp .lt 7, 3) := dk_161 0 7 (dk_at dksX10_mayDo_1 9 rfl rfl)
theorem dX10_mayDo_36 : decode cX10_mayDo 36 = .ok (.iconst 1, 1) := dk_4 (dk_at dksX10_mayDo_1 12 rfl rfl)
theorem dX10_mayDo_37 : decode cX10_mayDo 37 = .ok (.goto 4, 3) := dk_167 0 4 (dk_at dksX10_mayDo_1 13 rfl rfl)
theorem dX10_mayDo_40 : decode cX10_mayDo 40 = .ok (.iconst 0, 1) := dk_3 (dk_at dksX10_mayDo_1 16 rfl rfl)
theorem dX10_mayDo_41 : decode cX10_mayDo 41 = .ok (.ireturn, 1) := dk_172 (dk_at dksX10_mayDo_1 17 rfl rfl)
abbrev cX10_onesOf : ByteArray := prog_19_method_56_code
def yX10_onesOf : MethodName := ⟨RX10, "onesOf", "(I)I"⟩
def dkwX10_onesOf_1 : List UInt8 := [28, 172]
abbrev dktX10_onesOf_1 : List UInt8 := dkwX10_onesOf_1 ++ []
def dkwX10_onesOf_0 : List UInt8 := [3, 61, 3, 62, 29, 16, 12, 162, 0, 17, 28, 27, 29, 122, 4, 126, 96, 61, 132, 3, 1, 167, 255, 239]
abbrev dktX10_onesOf_0 : List UInt8 := dkwX10_onesOf_0 ++ dktX10_onesOf_1
theorem dksX10_onesOf_0 : cX10_onesOf.data.toList.drop 0 = dktX10_onesOf_0 := by decide +kernel
theorem dksX10_onesOf_1 : cX10_onesOf.data.toList.drop 24 = dktX10_onesOf_1 := dk_seg dksX10_onesOf_0 24 rfl rfl
theorem dX10_onesOf_0 : decode cX10_onesOf 0 = .ok (.iconst 0, 1) := dk_3 (dk_at dksX10_onesOf_0 0 rfl rfl)
theorem dX10_onesOf_1 : decode cX10_onesOf 1 = .ok (.istore_n 2, 1) := dk_61 (dk_at dksX10_onesOf_0 1 rfl rfl)
theorem dX10_onesOf_2 : decode cX10_onesOf 2 = .ok (.iconst 0, 1) := dk_3 (dk_at dksX10_onesOf_0 2 rfl rfl)
theorem dX10_onesOf_3 : decode cX10_onesOf 3 = .ok (.istore_n 3, 1) := dk_62 (dk_at dksX10_onesOf_0 3 rfl rfl)
theorem dX10_onesOf_4 : decode cX10_onesOf 4 = .ok (.iload_n 3, 1) := dk_29 (dk_at dksX10_onesOf_0 4 rfl rfl)
theorem dX10_onesOf_5 : decode cX10_onesOf 5 = .ok (.bipush 12, 2) := dk_16 12 (dk_at dksX10_onesOf_0 5 rfl rfl)
theorem dX10_onesOf_7 : decode cX10_onesOf 7 = .ok (.if_icmp .ge 17, 3) := dk_162 0 17 (dk_at dksX10_onesOf_0 7 rfl rfl)
theorem dX10_onesOf_10 : decode cX10_onesOf 10 = .ok (.iload_n 2, 1) := dk_28 (dk_at dksX10_onesOf_0 10 rfl rfl)
theorem dX10_onesOf_11 : decode cX10_onesOf 11 = .ok (.iload_n 1, 1) := dk_27 (dk_at dksX10_onesOf_0 11 rfl rfl)
theorem dX10_onesOf_12 : decode cX10_onesOf 12 = .ok (.iload_n 3, 1) := dk_29 (dk_at dksX10_onesOf_0 12 rfl rfl)
theorem dX10_onesOf_13 : decode cX10_onesOf 13 = .ok (.ishr, 1) := dk_122 (dk_at dksX10_onesOf_0 13 rfl rfl)
theorem dX10_onesOf_14 : decode cX10_onesOf 14 = .ok (.iconst 1, 1) := dk_4 (dk_at dksX10_onesOf_0 14 rfl rfl)
theorem dX10_onesOf_15 : decode cX10_onesOf 15 = .ok (.iand, 1) := dk_126 (dk_at dksX10_onesOf_0 15 rfl rfl)
theorem dX10_onesOf_16 : decode cX10_onesOf 16 = .ok (.iadd, 1) := dk_96 (dk_at dksX10_onesOf_0 16 rfl rfl)
theorem dX10_onesOf_17 : decode cX10_onesOf 17 = .ok (.istore_n 2, 1) := dk_61 (dk_at dksX10_onesOf_0 17 rfl rfl)
theorem dX10_onesOf_18 : decode cX10_onesOf 18 = .ok (.iinc 3 1, 3) := dk_132 3 1 (dk_at dksX10_onesOf_0 18 rfl rfl)
theorem dX10_onesOf_21 : decode cX10_onesOf 21 = .ok (.goto (-17), 3) := dk_167 255 239 (dk_at dksX10_onesOf_0 21 rfl rfl)
theorem dX10_onesOf_24 : decode cX10_onesOf 24 = .ok (.iload_n 2, 1) := dk_28 (dk_at dksX10_onesOf_1 0 rfl rfl)
theorem dX10_onesOf_25 : decode cX10_onesOf 25 = .ok (.ireturn, 1) := dk_172 (dk_at dksX10_onesOf_1 1 rfl rfl)
abbrev cX10_strengthOf : ByteArray := prog_19_method_55_code
def yX10_strengthOf : MethodName := ⟨RX10, "strengthOf", "(I)I"⟩
def dkwX10_strengthOf_1 : List UInt8 := [104, 96, 61, 132, 3, 1, 167, 255, 230, 28, 172]
abbrev dktX10_strengthOf_1 : List UInt8 := dkwX10_strengthOf_1 ++ []
def dkwX10_strengthOf_0 : List UInt8 := [3, 61, 3, 62, 29, 42, 180, 0, 214, 162, 0, 24, 28, 27, 29, 122, 4, 126, 42, 180, 0, 41, 29, 46]
abbrev dktX10_strengthOf_0 : List UInt8 := dkwX10_strengthOf_0 ++ dktX10_strengthOf_1
theorem dksX10_strengthOf_0 : cX10_strengthOf.data.toList.drop 0 = dktX10_strengthOf_0 := by decide +kernel
theorem dksX10_strengthOf_1 : cX10_strengthOf.data.toList.drop 24 = dktX10_strengthOf_1 := dk_seg dksX10_strengthOf_0 24 rfl rfl
theorem dX10_strengthOf_0 : decode cX10_strengthOf 0 = .ok (.iconst 0, 1) := dk_3 (dk_at dksX10_strengthOf_0 0 rfl rfl)
theorem dX10_strengthOf_1 : decode cX10_strengthOf 1 = .ok (.istore_n 2, 1) := dk_61 (dk_at dksX10_strengthOf_0 1 rfl rfl)
theorem dX10_strengthOf_2 : decode cX10_strengthOf 2 = .ok (.iconst 0, 1) := dk_3 (dk_at dksX10_strengthOf_0 2 rfl rfl)
theorem dX10_strengthOf_3 : decode cX10_strengthOf 3 = .ok (.istore_n 3, 1) := dk_62 (dk_at dksX10_strengthOf_0 3 rfl rfl)
theorem dX10_strengthOf_4 : decode cX10_strengthOf 4 = .ok (.iload_n 3, 1) := dk_29 (dk_at dksX10_strengthOf_0 4 rfl rfl)
theorem dX10_strengthOf_5 : decode cX10_strengthOf 5 = .ok (.aload_n 0, 1) := dk_42 (dk_at dksX10_strengthOf_0 5 rfl rfl)
theorem dX10_strengthOf_6 : decode cX10_strengthOf 6 = .ok (.getfield 214, 3) := dk_180 0 214 (dk_at dksX10_strengthOf_0 6 rfl rfl)
theorem dX10_strengthOf_9 : decode cX10_strengthOf 9 = .ok (.if_icmp .ge 24, 3) := dk_162 0 24 (dk_at dksX10_strengthOf_0 9 rfl rfl)
theorem dX10_strengthOf_12 : decode cX10_strengthOf 12 = .ok (.iload_n 2, 1) := dk_28 (dk_at dksX10_strengthOf_0 12 rfl rfl)
theorem dX10_strengthOf_13 : decode cX10_strengthOf 13 = .ok (.iload_n 1, 1) := dk_27 (dk_at dksX10_strengthOf_0 13 rfl rfl)
theorem dX10_strengthOf_14 : decode cX10_strengthOf 14 = .ok (.iload_n 3, 1) := dk_29 (dk_at dksX10_strengthOf_0 14 rfl rfl)
theorem dX10_strengthOf_15 : decode cX10_strengthOf 15 = .ok (.ishr, 1) := dk_122 (dk_at dksX10_strengthOf_0 15 rfl rfl)
theorem dX10_strengthOf_16 : decode cX10_strengthOf 16 = .ok (.iconst 1, 1) := dk_4 (dk_at dksX10_strengthOf_0 16 rfl rfl)
theorem dX10_strengthOf_17 : decode cX10_strengthOf 17 = .ok (.iand, 1) := dk_126 (dk_at dksX10_strengthOf_0 17 rfl rfl)
theorem dX10_strengthOf_18 : decode cX10_strengthOf 18 = .ok (.aload_n 0, 1) := dk_42 (dk_at dksX10_strengthOf_0 18 rfl rfl)
theorem dX10_strengthOf_19 : decode cX10_strengthOf 19 = .ok (.getfield 41, 3) := dk_180 0 41 (dk_at dksX10_strengthOf_0 19 rfl rfl)
theorem dX10_strengthOf_22 : decode cX10_strengthOf 22 = .ok (.iload_n 3, 1) := dk_29 (dk_at dksX10_strengthOf_0 22 rfl rfl)
theorem dX10_strengthOf_23 : decode cX10_strengthOf 23 = .ok (.iaload, 1) := dk_46 (dk_at dksX10_strengthOf_0 23 rfl rfl)
theorem dX10_strengthOf_24 : decode cX10_strengthOf 24 = .ok (.imul, 1) := dk_104 (dk_at dksX10_strengthOf_1 0 rfl rfl)
theorem dX10_strengthOf_25 : decode cX10_strengthOf 25 = .ok (.iadd, 1) := dk_96 (dk_at dksX10_strengthOf_1 1 rfl rfl)
theorem dX10_strengthOf_26 : decode cX10_strengthOf 26 = .ok (.istore_n 2, 1) := dk_61 (dk_at dksX10_strengthOf_1 2 rfl rfl)
theorem dX10_strengthOf_27 : decode cX10_strengthOf 27 = .ok (.iinc 3 1, 3) := dk_132 3 1 (dk_at dksX10_strengthOf_1 3 rfl rfl)
theorem dX10_strengthOf_30 : decode cX10_strengthOf 30 = .ok (.goto (-26), 3) := dk_167 255 230 (dk_at dksX10_strengthOf_1 6 rfl rfl)
theorem dX10_strengthOf_33 : decode cX10_strengthOf 33 = .ok (.iload_n 2, 1) := dk_28 (dk_at dksX10_strengthOf_1 9 rfl rfl)
theorem dX10_strengthOf_34 : decode cX10_strengthOf 34 = .ok (.ireturn, 1) := dk_172 (dk_at dksX10_strengthOf_1 10 rfl rfl)
abbrev cX10_beginOf : ByteArray := prog_19_method_59_code
def yX10_beginOf : MethodName := ⟨RX10, "beginOf", "(II)I"⟩
def dkwX10_beginOf_5 : List UInt8 := [167, 0, 4, 29, 62, 132, 4, 1, 167, 255, 187, 29, 172]
abbrev dktX10_beginOf_5 : List UInt8 := dkwX10_beginOf_5 ++ []
def dkwX10_beginOf_4 : List UInt8 := [160, 0, 5, 2, 172, 42, 180, 0, 111, 21, 4, 46, 29, 164, 0, 13, 42, 180, 0, 111, 21, 4, 46]
abbrev dktX10_beginOf_4 : List UInt8 := dkwX10_beginOf_4 ++ dktX10_beginOf_5
def dkwX10_beginOf_3 : List UInt8 := [104, 7, 96, 46, 21, 4, 122, 4, 126, 154, 0, 6, 167, 0, 39, 42, 180, 0, 111, 21, 4, 46, 2]
abbrev dktX10_beginOf_3 : List UInt8 := dkwX10_beginOf_3 ++ dktX10_beginOf_4
def dkwX10_beginOf_2 : List UInt8 := [132, 4, 1, 167, 255, 211, 3, 54, 4, 21, 4, 42, 180, 0, 217, 162, 0, 66, 42, 180, 0, 44, 8, 27]
abbrev dktX10_beginOf_2 : List UInt8 := dkwX10_beginOf_2 ++ dktX10_beginOf_3
def dkwX10_beginOf_1 : List UInt8 := [42, 180, 0, 108, 21, 4, 46, 29, 164, 0, 13, 42, 180, 0, 108, 21, 4, 46, 167, 0, 4, 29, 62]
abbrev dktX10_beginOf_1 : List UInt8 := dkwX10_beginOf_1 ++ dktX10_beginOf_2
def dkwX10_beginOf_0 : List UInt8 := [3, 62, 3, 54, 4, 21, 4, 42, 180, 0, 214, 162, 0, 42, 28, 21, 4, 122, 4, 126, 4, 160, 0, 24]
abbrev dktX10_beginOf_0 : List UInt8 := dkwX10_beginOf_0 ++ dktX10_beginOf_1
theorem dksX10_beginOf_0 : cX10_beginOf.data.toList.drop 0 = dktX10_beginOf_0 := by decide +kernel
theorem dksX10_beginOf_1 : cX10_beginOf.data.toList.drop 24 = dktX10_beginOf_1 := dk_seg dksX10_beginOf_0 24 rfl rfl
theorem dksX10_beginOf_2 : cX10_beginOf.data.toList.drop 47 = dktX10_beginOf_2 := dk_seg dksX10_beginOf_1 23 rfl rfl
theorem dksX10_beginOf_3 : cX10_beginOf.data.toList.drop 71 = dktX10_beginOf_3 := dk_seg dksX10_beginOf_2 24 rfl rfl
theorem dksX10_beginOf_4 : cX10_beginOf.data.toList.drop 94 = dktX10_beginOf_4 := dk_seg dksX10_beginOf_3 23 rfl rfl
theorem dksX10_beginOf_5 : cX10_beginOf.data.toList.drop 117 = dktX10_beginOf_5 := dk_seg dksX10_beginOf_4 23 rfl rfl
theorem dX10_beginOf_0 : decode cX10_beginOf 0 = .ok (.iconst 0, 1) := dk_3 (dk_at dksX10_beginOf_0 0 rfl rfl)
theorem dX10_beginOf_1 : decode cX10_beginOf 1 = .ok (.istore_n 3, 1) := dk_62 (dk_at dksX10_beginOf_0 1 rfl rfl)
theorem dX10_beginOf_2 : decode cX10_beginOf 2 = .ok (.iconst 0, 1) := dk_3 (dk_at dksX10_beginOf_0 2 rfl rfl)
theorem dX10_beginOf_3 : decode cX10_beginOf 3 = .ok (.istore 4, 2) := dk_54 4 (dk_at dksX10_beginOf_0 3 rfl rfl)
theorem dX10_beginOf_5 : decode cX10_beginOf 5 = .ok (.iload 4, 2) := dk_21 4 (dk_at dksX10_beginOf_0 5 rfl rfl)
theorem dX10_beginOf_7 : decode cX10_beginOf 7 = .ok (.aload_n 0, 1) := dk_42 (dk_at dksX10_beginOf_0 7 rfl rfl)
theorem dX10_beginOf_8 : decode cX10_beginOf 8 = .ok (.getfield 214, 3) := dk_180 0 214 (dk_at dksX10_beginOf_0 8 rfl rfl)
theorem dX10_beginOf_11 : decode cX10_beginOf 11 = .ok (.if_icmp .ge 42, 3) := dk_162 0 42 (dk_at dksX10_beginOf_0 11 rfl rfl)
theorem dX10_beginOf_14 : decode cX10_beginOf 14 = .ok (.iload_n 2, 1) := dk_28 (dk_at dksX10_beginOf_0 14 rfl rfl)
theorem dX10_beginOf_15 : decode cX10_beginOf 15 = .ok (.iload 4, 2) := dk_21 4 (dk_at dksX10_beginOf_0 15 rfl rfl)
theorem dX10_beginOf_17 : decode cX10_beginOf 17 = .ok (.ishr, 1) := dk_122 (dk_at dksX10_beginOf_0 17 rfl rfl)
theorem dX10_beginOf_18 : decode cX10_beginOf 18 = .ok (.iconst 1, 1) := dk_4 (dk_at dksX10_beginOf_0 18 rfl rfl)
theorem dX10_beginOf_19 : decode cX10_beginOf 19 = .ok (.iand, 1) := dk_126 (dk_at dksX10_beginOf_0 19 rfl rfl)
theorem dX10_beginOf_20 : decode cX10_beginOf 20 = .ok (.iconst 1, 1) := dk_4 (dk_at dksX10_beginOf_0 20 rfl rfl)
theorem dX10_beginOf_21 : decode cX10_beginOf 21 = .ok (.if_icmp .ne 24, 3) := dk_160 0 24 (dk_at dksX10_beginOf_0 21 rfl rfl)
theorem dX10_beginOf_24 : decode cX10_beginOf 24 = .ok (.aload_n 0, 1) := dk_42 (dk_at dksX10_beginOf_1 0 rfl rfl)
theorem dX10_beginOf_25 : decode cX10_beginOf 25 = .ok (.getfield 108, 3) := dk_180 0 108 (dk_at dksX10_beginOf_1 1 rfl rfl)
theorem dX10_beginOf_28 : decode cX10_beginOf 28 = .ok (.iload 4, 2) := dk_21 4 (dk_at dksX10_beginOf_1 4 rfl rfl)
theorem dX10_beginOf_30 : decode cX10_beginOf 30 = .ok (.iaload, 1) := dk_46 (dk_at dksX10_beginOf_1 6 rfl rfl)
theorem dX10_beginOf_31 : decode cX10_beginOf 31 = .ok (.iload_n 3, 1) := dk_29 (dk_at dksX10_beginOf_1 7 rfl rfl)
theorem dX10_beginOf_32 : decode cX10_beginOf 32 = .ok (.if_icmp .le 13, 3) := dk_164 0 13 (dk_at dksX10_beginOf_1 8 rfl rfl)
theorem dX10_beginOf_35 : decode cX10_beginOf 35 = .ok (.aload_n 0, 1) := dk_42 (dk_at dksX10_beginOf_1 11 rfl rfl)
theorem dX10_beginOf_36 : decode cX10_beginOf 36 = .ok (.getfield 108, 3) := dk_180 0 108 (dk_at dksX10_beginOf_1 12 rfl rfl)
theorem dX10_beginOf_39 : decode cX10_beginOf 39 = .ok (.iload 4, 2) := dk_21 4 (dk_at dksX10_beginOf_1 15 rfl rfl)
theorem dX10_beginOf_41 : decode cX10_beginOf 41 = .ok (.iaload, 1) := dk_46 (dk_at dksX10_beginOf_1 17 rfl rfl)
theorem dX10_beginOf_42 : decode cX10_beginOf 42 = .ok (.goto 4, 3) := dk_167 0 4 (dk_at dksX10_beginOf_1 18 rfl rfl)
theorem dX10_beginOf_45 : decode cX10_beginOf 45 = .ok (.iload_n 3, 1) := dk_29 (dk_at dksX10_beginOf_1 21 rfl rfl)
theorem dX10_beginOf_46 : decode cX10_beginOf 46 = .ok (.istore_n 3, 1) := dk_62 (dk_at dksX10_beginOf_1 22 rfl rfl)
theorem dX10_beginOf_47 : decode cX10_beginOf 47 = .ok (.iinc 4 1, 3) := dk_132 4 1 (dk_at dksX10_beginOf_2 0 rfl rfl)
theorem dX10_beginOf_50 : decode cX10_beginOf 50 = .ok (.goto (-45), 3) := dk_167 255 211 (dk_at dksX10_beginOf_2 3 rfl rfl)
theorem dX10_beginOf_53 : decode cX10_beginOf 53 = .ok (.iconst 0, 1) := dk_3 (dk_at dksX10_beginOf_2 6 rfl rfl)
theorem dX10_beginOf_54 : decode cX10_beginOf 54 = .ok (.istore 4, 2) := dk_54 4 (dk_at dksX10_beginOf_2 7 rfl rfl)
theorem dX10_beginOf_56 : decode cX10_beginOf 56 = .ok (.iload 4, 2) := dk_21 4 (dk_at dksX10_beginOf_2 9 rfl rfl)
theorem dX10_beginOf_58 : decode cX10_beginOf 58 = .ok (.aload_n 0, 1) := dk_42 (dk_at dksX10_beginOf_2 11 rfl rfl)
theorem dX10_beginOf_59 : decode cX10_beginOf 59 = .ok (.getfield 217, 3) := dk_180 0 217 (dk_at dksX10_beginOf_2 12 rfl rfl)
theorem dX10_beginOf_62 : decode cX10_beginOf 62 = .ok (.if_icmp .ge 66, 3) := dk_162 0 66 (dk_at dksX10_beginOf_2 15 rfl rfl)
theorem dX10_beginOf_65 : decode cX10_beginOf 65 = .ok (.aload_n 0, 1) := dk_42 (dk_at dksX10_beginOf_2 18 rfl rfl)
theorem dX10_beginOf_66 : decode cX10_beginOf 66 = .ok (.getfield 44, 3) := dk_180 0 44 (dk_at dksX10_beginOf_2 19 rfl rfl)
theorem dX10_beginOf_69 : decode cX10_beginOf 69 = .ok (.iconst 5, 1) := dk_8 (dk_at dksX10_beginOf_2 22 rfl rfl)
theorem dX10_beginOf_70 : decode cX10_beginOf 70 = .ok (.iload_n 1, 1) := dk_27 (dk_at dksX10_beginOf_2 23 rfl rfl)
theorem dX10_beginOf_71 : decode cX10_beginOf 71 = .ok (.imul, 1) := dk_104 (dk_at dksX10_beginOf_3 0 rfl rfl)
theorem dX10_beginOf_72 : decode cX10_beginOf 72 = .ok (.iconst 4, 1) := dk_7 (dk_at dksX10_beginOf_3 1 rfl rfl)
theorem dX10_beginOf_73 : decode cX10_beginOf 73 = .ok (.iadd, 1) := dk_96 (dk_at dksX10_beginOf_3 2 rfl rfl)
theorem dX10_beginOf_74 : decode cX10_beginOf 74 = .ok (.iaload, 1) := dk_46 (dk_at dksX10_beginOf_3 3 rfl rfl)
theorem dX10_beginOf_75 : decode cX10_beginOf 75 = .ok (.iload 4, 2) := dk_21 4 (dk_at dksX10_beginOf_3 4 rfl rfl)
theorem dX10_beginOf_77 : decode cX10_beginOf 77 = .ok (.ishr, 1) := dk_122 (dk_at dksX10_beginOf_3 6 rfl rfl)
theorem dX10_beginOf_78 : decode cX10_beginOf 78 = .ok (.iconst 1, 1) := dk_4 (dk_at dksX10_beginOf_3 7 rfl rfl)
theorem dX10_beginOf_79 : decode cX10_beginOf 79 = .ok (.iand, 1) := dk_126 (dk_at dksX10_beginOf_3 8 rfl rfl)
theorem dX10_beginOf_80 : decode cX10_beginOf 80 = .ok (.ifCond .ne 6, 3) := dk_154 0 6 (dk_at dksX10_beginOf_3 9 rfl rfl)
theorem dX10_beginOf_83 : decode cX10_beginOf 83 = .ok (.goto 39, 3) := dk_167 0 39 (dk_at dksX10_beginOf_3 12 rfl rfl)
theorem dX10_beginOf_86 : decode cX10_beginOf 86 = .ok (.aload_n 0, 1) := dk_42 (dk_at dksX10_beginOf_3 15 rfl rfl)
theorem dX10_beginOf_87 : decode cX10_beginOf 87 = .ok (.getfield 111, 3) := dk_180 0 111 (dk_at dksX10_beginOf_3 16 rfl rfl)
theorem dX10_beginOf_90 : decode cX10_beginOf 90 = .ok (.iload 4, 2) := dk_21 4 (dk_at dksX10_beginOf_3 19 rfl rfl)
theorem dX10_beginOf_92 : decode cX10_beginOf 92 = .ok (.iaload, 1) := dk_46 (dk_at dksX10_beginOf_3 21 rfl rfl)
theorem dX10_beginOf_93 : decode cX10_beginOf 93 = .ok (.iconst (-1), 1) := dk_2 (dk_at dksX10_beginOf_3 22 rfl rfl)
theorem dX10_beginOf_94 : decode cX10_beginOf 94 = .ok (.if_icmp .ne 5, 3) := dk_160 0 5 (dk_at dksX10_beginOf_4 0 rfl rfl)
theorem dX10_beginOf_97 : decode cX10_beginOf 97 = .ok (.iconst (-1), 1) := dk_2 (dk_at dksX10_beginOf_4 3 rfl rfl)
theorem dX10_beginOf_98 : decode cX10_beginOf 98 = .ok (.ireturn, 1) := dk_172 (dk_at dksX10_beginOf_4 4 rfl rfl)
theorem dX10_beginOf_99 : decode cX10_beginOf 99 = .ok (.aload_n 0, 1) := dk_42 (dk_at dksX10_beginOf_4 5 rfl rfl)
theorem dX10_beginOf_100 : decode cX10_beginOf 100 = .ok (.getfield 111, 3) := dk_180 0 111 (dk_at dksX10_beginOf_4 6 rfl rfl)
theorem dX10_beginOf_103 : decode cX10_beginOf 103 = .ok (.iload 4, 2) := dk_21 4 (dk_at dksX10_beginOf_4 9 rfl rfl)
theorem dX10_beginOf_105 : decode cX10_beginOf 105 = .ok (.iaload, 1) := dk_46 (dk_at dksX10_beginOf_4 11 rfl rfl)
theorem dX10_beginOf_106 : decode cX10_beginOf 106 = .ok (.iload_n 3, 1) := dk_29 (dk_at dksX10_beginOf_4 12 rfl rfl)
theorem dX10_beginOf_107 : decode cX10_beginOf 107 = .ok (.if_icmp .le 13, 3) := dk_164 0 13 (dk_at dksX10_beginOf_4 13 rfl rfl)
theorem dX10_beginOf_110 : decode cX10_beginOf 110 = .ok (.aload_n 0, 1) := dk_42 (dk_at dksX10_beginOf_4 16 rfl rfl)
theorem dX10_beginOf_111 : decode cX10_beginOf 111 = .ok (.getfield 111, 3) := dk_180 0 111 (dk_at dksX10_beginOf_4 17 rfl rfl)
theorem dX10_beginOf_114 : decode cX10_beginOf 114 = .ok (.iload 4, 2) := dk_21 4 (dk_at dksX10_beginOf_4 20 rfl rfl)
theorem dX10_beginOf_116 : decode cX10_beginOf 116 = .ok (.iaload, 1) := dk_46 (dk_at dksX10_beginOf_4 22 rfl rfl)
theorem dX10_beginOf_117 : decode cX10_beginOf 117 = .ok (.goto 4, 3) := dk_167 0 4 (dk_at dksX10_beginOf_5 0 rfl rfl)
theorem dX10_beginOf_120 : decode cX10_beginOf 120 = .ok (.iload_n 3, 1) := dk_29 (dk_at dksX10_beginOf_5 3 rfl rfl)
theorem dX10_beginOf_121 : decode cX10_beginOf 121 = .ok (.istore_n 3, 1) := dk_62 (dk_at dksX10_beginOf_5 4 rfl rfl)
theorem dX10_beginOf_122 : decode cX10_beginOf 122 = .ok (.iinc 4 1, 3) := dk_132 4 1 (dk_at dksX10_beginOf_5 5 rfl rfl)
theorem dX10_beginOf_125 : decode cX10_beginOf 125 = .ok (.goto (-69), 3) := dk_167 255 187 (dk_at dksX10_beginOf_5 8 rfl rfl)
theorem dX10_beginOf_128 : decode cX10_beginOf 128 = .ok (.iload_n 3, 1) := dk_29 (dk_at dksX10_beginOf_5 11 rfl rfl)
theorem dX10_beginOf_129 : decode cX10_beginOf 129 = .ok (.ireturn, 1) := dk_172 (dk_at dksX10_beginOf_5 12 rfl rfl)
abbrev cX10_lastsOf : ByteArray := prog_19_method_58_code
def yX10_lastsOf : MethodName := ⟨RX10, "lastsOf", "(III)I"⟩
def dkwX10_lastsOf_4 : List UInt8 := [42, 182, 1, 119, 172]
abbrev dktX10_lastsOf_4 : List UInt8 := dkwX10_lastsOf_4 ++ []
def dkwX10_lastsOf_3 : List UInt8 := [153, 0, 7, 4, 167, 0, 4, 3, 79, 42, 180, 0, 87, 7, 29, 79, 42, 180, 0, 87, 8, 21, 4, 79]
abbrev dktX10_lastsOf_3 : List UInt8 := dkwX10_lastsOf_3 ++ dktX10_lastsOf_4
def dkwX10_lastsOf_2 : List UInt8 := [5, 42, 28, 182, 1, 125, 79, 42, 180, 0, 87, 6, 21, 4, 4, 160, 0, 15, 42, 29, 182, 1, 128]
abbrev dktX10_lastsOf_2 : List UInt8 := dkwX10_lastsOf_2 ++ dktX10_lastsOf_3
def dkwX10_lastsOf_1 : List UInt8 := [3, 96, 46, 79, 42, 180, 0, 87, 4, 42, 180, 0, 44, 8, 27, 104, 5, 96, 46, 79, 42, 180, 0, 87]
abbrev dktX10_lastsOf_1 : List UInt8 := dkwX10_lastsOf_1 ++ dktX10_lastsOf_2
def dkwX10_lastsOf_0 : List UInt8 := [42, 180, 0, 44, 8, 27, 104, 4, 96, 46, 54, 4, 42, 180, 0, 87, 3, 42, 180, 0, 44, 8, 27, 104]
abbrev dktX10_lastsOf_0 : List UInt8 := dkwX10_lastsOf_0 ++ dktX10_lastsOf_1
theorem dksX10_lastsOf_0 : cX10_lastsOf.data.toList.drop 0 = dktX10_lastsOf_0 := by decide +kernel
theorem dksX10_lastsOf_1 : cX10_lastsOf.data.toList.drop 24 = dktX10_lastsOf_1 := dk_seg dksX10_lastsOf_0 24 rfl rfl
theorem dksX10_lastsOf_2 : cX10_lastsOf.data.toList.drop 48 = dktX10_lastsOf_2 := dk_seg dksX10_lastsOf_1 24 rfl rfl
theorem dksX10_lastsOf_3 : cX10_lastsOf.data.toList.drop 71 = dktX10_lastsOf_3 := dk_seg dksX10_lastsOf_2 23 rfl rfl
theorem dksX10_lastsOf_4 : cX10_lastsOf.data.toList.drop 95 = dktX10_lastsOf_4 := dk_seg dksX10_lastsOf_3 24 rfl rfl
theorem dX10_lastsOf_0 : decode cX10_lastsOf 0 = .ok (.aload_n 0, 1) := dk_42 (dk_at dksX10_lastsOf_0 0 rfl rfl)
theorem dX10_lastsOf_1 : decode cX10_lastsOf 1 = .ok (.getfield 44, 3) := dk_180 0 44 (dk_at dksX10_lastsOf_0 1 rfl rfl)
theorem dX10_lastsOf_4 : decode cX10_lastsOf 4 = .ok (.iconst 5, 1) := dk_8 (dk_at dksX10_lastsOf_0 4 rfl rfl)
theorem dX10_lastsOf_5 : decode cX10_lastsOf 5 = .ok (.iload_n 1, 1) := dk_27 (dk_at dksX10_lastsOf_0 5 rfl rfl)
theorem dX10_lastsOf_6 : decode cX10_lastsOf 6 = .ok (.imul, 1) := dk_104 (dk_at dksX10_lastsOf_0 6 rfl rfl)
theorem dX10_lastsOf_7 : decode cX10_lastsOf 7 = .ok (.iconst 1, 1) := dk_4 (dk_at dksX10_lastsOf_0 7 rfl rfl)
theorem dX10_lastsOf_8 : decode cX10_lastsOf 8 = .ok (.iadd, 1) := dk_96 (dk_at dksX10_lastsOf_0 8 rfl rfl)
theorem dX10_lastsOf_9 : decode cX10_lastsOf 9 = .ok (.iaload, 1) := dk_46 (dk_at dksX10_lastsOf_0 9 rfl rfl)
theorem dX10_lastsOf_10 : decode cX10_lastsOf 10 = .ok (.istore 4, 2) := dk_54 4 (dk_at dksX10_lastsOf_0 10 rfl rfl)
theorem dX10_lastsOf_12 : decode cX10_lastsOf 12 = .ok (.aload_n 0, 1) := dk_42 (dk_at dksX10_lastsOf_0 12 rfl rfl)
theorem dX10_lastsOf_13 : decode cX10_lastsOf 13 = .ok (.getfield 87, 3) := dk_180 0 87 (dk_at dksX10_lastsOf_0 13 rfl rfl)
theorem dX10_lastsOf_16 : decode cX10_lastsOf 16 = .ok (.iconst 0, 1) := dk_3 (dk_at dksX10_lastsOf_0 16 rfl rfl)
theorem dX10_lastsOf_17 : decode cX10_lastsOf 17 = .ok (.aload_n 0, 1) := dk_42 (dk_at dksX10_lastsOf_0 17 rfl rfl)
theorem dX10_lastsOf_18 : decode cX10_lastsOf 18 = .ok (.getfield 44, 3) := dk_180 0 44 (dk_at dksX10_lastsOf_0 18 rfl rfl)
theorem dX10_lastsOf_21 : decode cX10_lastsOf 21 = .ok (.iconst 5, 1) := dk_8 (dk_at dksX10_lastsOf_0 21 rfl rfl)
theorem dX10_lastsOf_22 : decode cX10_lastsOf 22 = .ok (.iload_n 1, 1) := dk_27 (dk_at dksX10_lastsOf_0 22 rfl rfl)
theorem dX10_lastsOf_23 : decode cX10_lastsOf 23 = .ok (.imul, 1) := dk_104 (dk_at dksX10_lastsOf_0 23 rfl rfl)
theorem dX10_lastsOf_24 : decode cX10_lastsOf 24 = .ok (.iconst 0, 1) := dk_3 (dk_at dksX10_lastsOf_1 0 rfl rfl)
theorem dX10_lastsOf_25 : decode cX10_lastsOf 25 = .ok (.iadd, 1) := dk_96 (dk_at dksX10_lastsOf_1 1 rfl rfl)
theorem dX10_lastsOf_26 : decode cX10_lastsOf 26 = .ok (.iaload, 1) := dk_46 (dk_at dksX10_lastsOf_1 2 rfl rfl)
theorem dX10_lastsOf_27 : decode cX10_lastsOf 27 = .ok (.iastore, 1) := dk_79 (dk_at dksX10_lastsOf_1 3 rfl rfl)
theorem dX10_lastsOf_28 : decode cX10_lastsOf 28 = .ok (.aload_n 0, 1) := dk_42 (dk_at dksX10_lastsOf_1 4 rfl rfl)
theorem dX10_lastsOf_29 : decode cX10_lastsOf 29 = .ok (.getfield 87, 3) := dk_180 0 87 (dk_at dksX10_lastsOf_1 5 rfl rfl)
theorem dX10_lastsOf_32 : decode cX10_lastsOf 32 = .ok (.iconst 1, 1) := dk_4 (dk_at dksX10_lastsOf_1 8 rfl rfl)
theorem dX10_lastsOf_33 : decode cX10_lastsOf 33 = .ok (.aload_n 0, 1) := dk_42 (dk_at dksX10_lastsOf_1 9 rfl rfl)
theorem dX10_lastsOf_34 : decode cX10_lastsOf 34 = .ok (.getfield 44, 3) := dk_180 0 44 (dk_at dksX10_lastsOf_1 10 rfl rfl)
theorem dX10_lastsOf_37 : decode cX10_lastsOf 37 = .ok (.iconst 5, 1) := dk_8 (dk_at dksX10_lastsOf_1 13 rfl rfl)
theorem dX10_lastsOf_38 : decode cX10_lastsOf 38 = .ok (.iload_n 1, 1) := dk_27 (dk_at dksX10_lastsOf_1 14 rfl rfl)
theorem dX10_lastsOf_39 : decode cX10_lastsOf 39 = .ok (.imul, 1) := dk_104 (dk_at dksX10_lastsOf_1 15 rfl rfl)
theorem dX10_lastsOf_40 : decode cX10_lastsOf 40 = .ok (.iconst 2, 1) := dk_5 (dk_at dksX10_lastsOf_1 16 rfl rfl)
theorem dX10_lastsOf_41 : decode cX10_lastsOf 41 = .ok (.iadd, 1) := dk_96 (dk_at dksX10_lastsOf_1 17 rfl rfl)
theorem dX10_lastsOf_42 : decode cX10_lastsOf 42 = .ok (.iaload, 1) := dk_46 (dk_at dksX10_lastsOf_1 18 rfl rfl)
theorem dX10_lastsOf_43 : decode cX10_lastsOf 43 = .ok (.iastore, 1) := dk_79 (dk_at dksX10_lastsOf_1 19 rfl rfl)
theorem dX10_lastsOf_44 : decode cX10_lastsOf 44 = .ok (.aload_n 0, 1) := dk_42 (dk_at dksX10_lastsOf_1 20 rfl rfl)
theorem dX10_lastsOf_45 : decode cX10_lastsOf 45 = .ok (.getfield 87, 3) := dk_180 0 87 (dk_at dksX10_lastsOf_1 21 rfl rfl)
theorem dX10_lastsOf_48 : decode cX10_lastsOf 48 = .ok (.iconst 2, 1) := dk_5 (dk_at dksX10_lastsOf_2 0 rfl rfl)
theorem dX10_lastsOf_49 : decode cX10_lastsOf 49 = .ok (.aload_n 0, 1) := dk_42 (dk_at dksX10_lastsOf_2 1 rfl rfl)
theorem dX10_lastsOf_50 : decode cX10_lastsOf 50 = .ok (.iload_n 2, 1) := dk_28 (dk_at dksX10_lastsOf_2 2 rfl rfl)
theorem dX10_lastsOf_51 : decode cX10_lastsOf 51 = .ok (.invokevirtual 381, 3) := dk_182 1 125 (dk_at dksX10_lastsOf_2 3 rfl rfl)
theorem dX10_lastsOf_54 : decode cX10_lastsOf 54 = .ok (.iastore, 1) := dk_79 (dk_at dksX10_lastsOf_2 6 rfl rfl)
theorem dX10_lastsOf_55 : decode cX10_lastsOf 55 = .ok (.aload_n 0, 1) := dk_42 (dk_at dksX10_lastsOf_2 7 rfl rfl)
theorem dX10_lastsOf_56 : decode cX10_lastsOf 56 = .ok (.getfield 87, 3) := dk_180 0 87 (dk_at dksX10_lastsOf_2 8 rfl rfl)
theorem dX10_lastsOf_59 : decode cX10_lastsOf 59 = .ok (.iconst 3, 1) := dk_6 (dk_at dksX10_lastsOf_2 11 rfl rfl)
theorem dX10_lastsOf_60 : decode cX10_lastsOf 60 = .ok (.iload 4, 2) := dk_21 4 (dk_at dksX10_lastsOf_2 12 rfl rfl)
theorem dX10_lastsOf_62 : decode cX10_lastsOf 62 = .ok (.iconst 1, 1) := dk_4 (dk_at dksX10_lastsOf_2 14 rfl rfl)
theorem dX10_lastsOf_63 : decode cX10_lastsOf 63 = .ok (.if_icmp .ne 15, 3) := dk_160 0 15 (dk_at dksX10_lastsOf_2 15 rfl rfl)
theorem dX10_lastsOf_66 : decode cX10_lastsOf 66 = .ok (.aload_n 0, 1) := dk_42 (dk_at dksX10_lastsOf_2 18 rfl rfl)
theorem dX10_lastsOf_67 : decode cX10_lastsOf 67 = .ok (.iload_n 3, 1) := dk_29 (dk_at dksX10_lastsOf_2 19 rfl rfl)
theorem dX10_lastsOf_68 : decode cX10_lastsOf 68 = .ok (.invokevirtual 384, 3) := dk_182 1 128 (dk_at dksX10_lastsOf_2 20 rfl rfl)
theorem dX10_lastsOf_71 : decode cX10_lastsOf 71 = .ok (.ifCond .eq 7, 3) := dk_153 0 7 (dk_at dksX10_lastsOf_3 0 rfl rfl)
theorem dX10_lastsOf_74 : decode cX10_lastsOf 74 = .ok (.iconst 1, 1) := dk_4 (dk_at dksX10_lastsOf_3 3 rfl rfl)
theorem dX10_lastsOf_75 : decode cX10_lastsOf 75 = .ok (.goto 4, 3) := dk_167 0 4 (dk_at dksX10_lastsOf_3 4 rfl rfl)
theorem dX10_lastsOf_78 : decode cX10_lastsOf 78 = .ok (.iconst 0, 1) := dk_3 (dk_at dksX10_lastsOf_3 7 rfl rfl)
theorem dX10_lastsOf_79 : decode cX10_lastsOf 79 = .ok (.iastore, 1) := dk_79 (dk_at dksX10_lastsOf_3 8 rfl rfl)
theorem dX10_lastsOf_80 : decode cX10_lastsOf 80 = .ok (.aload_n 0, 1) := dk_42 (dk_at dksX10_lastsOf_3 9 rfl rfl)
theorem dX10_lastsOf_81 : decode cX10_lastsOf 81 = .ok (.getfield 87, 3) := dk_180 0 87 (dk_at dksX10_lastsOf_3 10 rfl rfl)
theorem dX10_lastsOf_84 : decode cX10_lastsOf 84 = .ok (.iconst 4, 1) := dk_7 (dk_at dksX10_lastsOf_3 13 rfl rfl)
theorem dX10_lastsOf_85 : decode cX10_lastsOf 85 = .ok (.iload_n 3, 1) := dk_29 (dk_at dksX10_lastsOf_3 14 rfl rfl)
theorem dX10_lastsOf_86 : decode cX10_lastsOf 86 = .ok (.iastore, 1) := dk_79 (dk_at dksX10_lastsOf_3 15 rfl rfl)
theorem dX10_lastsOf_87 : decode cX10_lastsOf 87 = .ok (.aload_n 0, 1) := dk_42 (dk_at dksX10_lastsOf_3 16 rfl rfl)
theorem dX10_lastsOf_88 : decode cX10_lastsOf 88 = .ok (.getfield 87, 3) := dk_180 0 87 (dk_at dksX10_lastsOf_3 17 rfl rfl)
theorem dX10_lastsOf_91 : decode cX10_lastsOf 91 = .ok (.iconst 5, 1) := dk_8 (dk_at dksX10_lastsOf_3 20 rfl rfl)
theorem dX10_lastsOf_92 : decode cX10_lastsOf 92 = .ok (.iload 4, 2) := dk_21 4 (dk_at dksX10_lastsOf_3 21 rfl rfl)
theorem dX10_lastsOf_94 : decode cX10_lastsOf 94 = .ok (.iastore, 1) := dk_79 (dk_at dksX10_lastsOf_3 23 rfl rfl)
theorem dX10_lastsOf_95 : decode cX10_lastsOf 95 = .ok (.aload_n 0, 1) := dk_42 (dk_at dksX10_lastsOf_4 0 rfl rfl)
theorem dX10_lastsOf_96 : decode cX10_lastsOf 96 = .ok (.invokevirtual 375, 3) := dk_182 1 119 (dk_at dksX10_lastsOf_4 1 rfl rfl)
theorem dX10_lastsOf_99 : decode cX10_lastsOf 99 = .ok (.ireturn, 1) := dk_172 (dk_at dksX10_lastsOf_4 4 rfl rfl)
abbrev cX10_isRain : ByteArray := prog_19_method_52_code
def yX10_isRain : MethodName := ⟨RX10, "isRain", "(I)Z"⟩
def dkwX10_isRain_0 : List UInt8 := [27, 17, 0, 241, 162, 0, 16, 42, 180, 0, 63, 27, 51, 153, 0, 7, 4, 167, 0, 4, 3, 172]
abbrev dktX10_isRain_0 : List UInt8 := dkwX10_isRain_0 ++ []
theorem dksX10_isRain_0 : cX10_isRain.data.toList.drop 0 = dktX10_isRain_0 := by decide +kernel
theorem dX10_isRain_0 : decode cX10_isRain 0 = .ok (.iload_n 1, 1) := dk_27 (dk_at dksX10_isRain_0 0 rfl rfl)
theorem dX10_isRain_1 : decode cX10_isRain 1 = .ok (.sipush 241, 3) := dk_17 0 241 (dk_at dksX10_isRain_0 1 rfl rfl)
theorem dX10_isRain_4 : decode cX10_isRain 4 = .ok (.if_icmp .ge 16, 3) := dk_162 0 16 (dk_at dksX10_isRain_0 4 rfl rfl)
theorem dX10_isRain_7 : decode cX10_isRain 7 = .ok (.aload_n 0, 1) := dk_42 (dk_at dksX10_isRain_0 7 rfl rfl)
theorem dX10_isRain_8 : decode cX10_isRain 8 = .ok (.getfield 63, 3) := dk_180 0 63 (dk_at dksX10_isRain_0 8 rfl rfl)
theorem dX10_isRain_11 : decode cX10_isRain 11 = .ok (.iload_n 1, 1) := dk_27 (dk_at dksX10_isRain_0 11 rfl rfl)
theorem dX10_isRain_12 : decode cX10_isRain 12 = .ok (.baload, 1) := dk_51 (dk_at dksX10_isRain_0 12 rfl rfl)
theorem dX10_isRain_13 : decode cX10_isRain 13 = .ok (.ifCond .eq 7, 3) := dk_153 0 7 (dk_at dksX10_isRain_0 13 rfl rfl)
theorem dX10_isRain_16 : decode cX10_isRain 16 = .ok (.iconst 1, 1) := dk_4 (dk_at dksX10_isRain_0 16 rfl rfl)
theorem dX10_isRain_17 : decode cX10_isRain 17 = .ok (.goto 4, 3) := dk_167 0 4 (dk_at dksX10_isRain_0 17 rfl rfl)
theorem dX10_isRain_20 : decode cX10_isRain 20 = .ok (.iconst 0, 1) := dk_3 (dk_at dksX10_isRain_0 20 rfl rfl)
theorem dX10_isRain_21 : decode cX10_isRain 21 = .ok (.ireturn, 1) := dk_172 (dk_at dksX10_isRain_0 21 rfl rfl)
abbrev cX10_draws : ByteArray := prog_19_method_108_code
def yX10_draws : MethodName := ⟨RX10, "draws", "()I"⟩
def dkwX10_draws_1 : List UInt8 := [17, 127, 255, 126, 16, 16, 112, 172]
abbrev dktX10_draws_1 : List UInt8 := dkwX10_draws_1 ++ []
def dkwX10_draws_0 : List UInt8 := [42, 42, 180, 1, 239, 19, 1, 242, 104, 17, 48, 57, 96, 181, 1, 239, 42, 180, 1, 239, 16, 16, 122]
abbrev dktX10_draws_0 : List UInt8 := dkwX10_draws_0 ++ dktX10_draws_1
theorem dksX10_draws_0 : cX10_draws.data.toList.drop 0 = dktX10_draws_0 := by decide +kernel
theorem dksX10_draws_1 : cX10_draws.data.toList.drop 23 = dktX10_draws_1 := dk_seg dksX10_draws_0 23 rfl rfl
theorem dX10_draws_0 : decode cX10_draws 0 = .ok (.aload_n 0, 1) := dk_42 (dk_at dksX10_draws_0 0 rfl rfl)
theorem dX10_draws_1 : decode cX10_draws 1 = .ok (.aload_n 0, 1) := dk_42 (dk_at dksX10_draws_0 1 rfl rfl)
theorem dX10_draws_2 : decode cX10_draws 2 = .ok (.getfield 495, 3) := dk_180 1 239 (dk_at dksX10_draws_0 2 rfl rfl)
theorem dX10_draws_5 : decode cX10_draws 5 = .ok (.ldc_w 498, 3) := dk_19 1 242 (dk_at dksX10_draws_0 5 rfl rfl)
theorem dX10_draws_8 : decode cX10_draws 8 = .ok (.imul, 1) := dk_104 (dk_at dksX10_draws_0 8 rfl rfl)
theorem dX10_draws_9 : decode cX10_draws 9 = .ok (.sipush 12345, 3) := dk_17 48 57 (dk_at dksX10_draws_0 9 rfl rfl)
theorem dX10_draws_12 : decode cX10_draws 12 = .ok (.iadd, 1) := dk_96 (dk_at dksX10_draws_0 12 rfl rfl)
theorem dX10_draws_13 : decode cX10_draws 13 = .ok (.putfield 495, 3) := dk_181 1 239 (dk_at dksX10_draws_0 13 rfl rfl)
theorem dX10_draws_16 : decode cX10_draws 16 = .ok (.aload_n 0, 1) := dk_42 (dk_at dksX10_draws_0 16 rfl rfl)
theorem dX10_draws_17 : decode cX10_draws 17 = .ok (.getfield 495, 3) := dk_180 1 239 (dk_at dksX10_draws_0 17 rfl rfl)
theorem dX10_draws_20 : decode cX10_draws 20 = .ok (.bipush 16, 2) := dk_16 16 (dk_at dksX10_draws_0 20 rfl rfl)
theorem dX10_draws_22 : decode cX10_draws 22 = .ok (.ishr, 1) := dk_122 (dk_at dksX10_draws_0 22 rfl rfl)
theorem dX10_draws_23 : decode cX10_draws 23 = .ok (.sipush 32767, 3) := dk_17 127 255 (dk_at dksX10_draws_1 0 rfl rfl)
theorem dX10_draws_26 : decode cX10_draws 26 = .ok (.iand, 1) := dk_126 (dk_at dksX10_draws_1 3 rfl rfl)
theorem dX10_draws_27 : decode cX10_draws 27 = .ok (.bipush 16, 2) := dk_16 16 (dk_at dksX10_draws_1 4 rfl rfl)
theorem dX10_draws_29 : decode cX10_draws 29 = .ok (.irem, 1) := dk_112 (dk_at dksX10_draws_1 6 rfl rfl)
theorem dX10_draws_30 : decode cX10_draws 30 = .ok (.ireturn, 1) := dk_172 (dk_at dksX10_draws_1 7 rfl rfl)
abbrev cX10_rainIn : ByteArray := prog_19_method_60_code
def yX10_rainIn : MethodName := ⟨RX10, "rainIn", "(II)I"⟩
def dkwX10_rainIn_1 : List UInt8 := [167, 0, 4, 3, 96, 62, 132, 4, 1, 167, 255, 230, 29, 172]
abbrev dktX10_rainIn_1 : List UInt8 := dkwX10_rainIn_1 ++ []
def dkwX10_rainIn_0 : List UInt8 := [3, 62, 27, 54, 4, 21, 4, 28, 162, 0, 26, 29, 42, 21, 4, 182, 1, 128, 153, 0, 7, 4]
abbrev dktX10_rainIn_0 : List UInt8 := dkwX10_rainIn_0 ++ dktX10_rainIn_1
theorem dksX10_rainIn_0 : cX10_rainIn.data.toList.drop 0 = dktX10_rainIn_0 := by decide +kernel
theorem dksX10_rainIn_1 : cX10_rainIn.data.toList.drop 22 = dktX10_rainIn_1 := dk_seg dksX10_rainIn_0 22 rfl rfl
theorem dX10_rainIn_0 : decode cX10_rainIn 0 = .ok (.iconst 0, 1) := dk_3 (dk_at dksX10_rainIn_0 0 rfl rfl)
theorem dX10_rainIn_1 : decode cX10_rainIn 1 = .ok (.istore_n 3, 1) := dk_62 (dk_at dksX10_rainIn_0 1 rfl rfl)
theorem dX10_rainIn_2 : decode cX10_rainIn 2 = .ok (.iload_n 1, 1) := dk_27 (dk_at dksX10_rainIn_0 2 rfl rfl)
theorem dX10_rainIn_3 : decode cX10_rainIn 3 = .ok (.istore 4, 2) := dk_54 4 (dk_at dksX10_rainIn_0 3 rfl rfl)
theorem dX10_rainIn_5 : decode cX10_rainIn 5 = .ok (.iload 4, 2) := dk_21 4 (dk_at dksX10_rainIn_0 5 rfl rfl)
theorem dX10_rainIn_7 : decode cX10_rainIn 7 = .ok (.iload_n 2, 1) := dk_28 (dk_at dksX10_rainIn_0 7 rfl rfl)
theorem dX10_rainIn_8 : decode cX10_rainIn 8 = .ok (.if_icmp .ge 26, 3) := dk_162 0 26 (dk_at dksX10_rainIn_0 8 rfl rfl)
theorem dX10_rainIn_11 : decode cX10_rainIn 11 = .ok (.iload_n 3, 1) := dk_29 (dk_at dksX10_rainIn_0 11 rfl rfl)
theorem dX10_rainIn_12 : decode cX10_rainIn 12 = .ok (.aload_n 0, 1) := dk_42 (dk_at dksX10_rainIn_0 12 rfl rfl)
theorem dX10_rainIn_13 : decode cX10_rainIn 13 = .ok (.iload 4, 2) := dk_21 4 (dk_at dksX10_rainIn_0 13 rfl rfl)
theorem dX10_rainIn_15 : decode cX10_rainIn 15 = .ok (.invokevirtual 384, 3) := dk_182 1 128 (dk_at dksX10_rainIn_0 15 rfl rfl)
theorem dX10_rainIn_18 : decode cX10_rainIn 18 = .ok (.ifCond .eq 7, 3) := dk_153 0 7 (dk_at dksX10_rainIn_0 18 rfl rfl)
theorem dX10_rainIn_21 : decode cX10_rainIn 21 = .ok (.iconst 1, 1) := dk_4 (dk_at dksX10_rainIn_0 21 rfl rfl)
theorem dX10_rainIn_22 : decode cX10_rainIn 22 = .ok (.goto 4, 3) := dk_167 0 4 (dk_at dksX10_rainIn_1 0 rfl rfl)
theorem dX10_rainIn_25 : decode cX10_rainIn 25 = .ok (.iconst 0, 1) := dk_3 (dk_at dksX10_rainIn_1 3 rfl rfl)
theorem dX10_rainIn_26 : decode cX10_rainIn 26 = .ok (.iadd, 1) := dk_96 (dk_at dksX10_rainIn_1 4 rfl rfl)
theorem dX10_rainIn_27 : decode cX10_rainIn 27 = .ok (.istore_n 3, 1) := dk_62 (dk_at dksX10_rainIn_1 5 rfl rfl)
theorem dX10_rainIn_28 : decode cX10_rainIn 28 = .ok (.iinc 4 1, 3) := dk_132 4 1 (dk_at dksX10_rainIn_1 6 rfl rfl)
theorem dX10_rainIn_31 : decode cX10_rainIn 31 = .ok (.goto (-26), 3) := dk_167 255 230 (dk_at dksX10_rainIn_1 9 rfl rfl)
theorem dX10_rainIn_34 : decode cX10_rainIn 34 = .ok (.iload_n 3, 1) := dk_29 (dk_at dksX10_rainIn_1 12 rfl rfl)
theorem dX10_rainIn_35 : decode cX10_rainIn 35 = .ok (.ireturn, 1) := dk_172 (dk_at dksX10_rainIn_1 13 rfl rfl)
abbrev cX10_span : ByteArray := prog_19_method_64_code
def yX10_span : MethodName := ⟨RX10, "span", "()I"⟩
def dkwX10_span_0 : List UInt8 := [42, 3, 181, 0, 3, 42, 3, 182, 1, 152, 172]
abbrev dktX10_span_0 : List UInt8 := dkwX10_span_0 ++ []
theorem dksX10_span_0 : cX10_span.data.toList.drop 0 = dktX10_span_0 := by decide +kernel
theorem dX10_span_0 : decode cX10_span 0 = .ok (.aload_n 0, 1) := dk_42 (dk_at dksX10_span_0 0 rfl rfl)
theorem dX10_span_1 : decode cX10_span 1 = .ok (.iconst 0, 1) := dk_3 (dk_at dksX10_span_0 1 rfl rfl)
theorem dX10_span_2 : decode cX10_span 2 = .ok (.putfield 3, 3) := dk_181 0 3 (dk_at dksX10_span_0 2 rfl rfl)
theorem dX10_span_5 : decode cX10_span 5 = .ok (.aload_n 0, 1) := dk_42 (dk_at dksX10_span_0 5 rfl rfl)
theorem dX10_span_6 : decode cX10_span 6 = .ok (.iconst 0, 1) := dk_3 (dk_at dksX10_span_0 6 rfl rfl)
theorem dX10_span_7 : decode cX10_span 7 = .ok (.invokevirtual 408, 3) := dk_182 1 152 (dk_at dksX10_span_0 7 rfl rfl)
theorem dX10_span_10 : decode cX10_span 10 = .ok (.ireturn, 1) := dk_172 (dk_at dksX10_span_0 10 rfl rfl)
abbrev cX10_wet : ByteArray := prog_19_method_65_code
def yX10_wet : MethodName := ⟨RX10, "wet", "(I)I"⟩
def dkwX10_wet_1 : List UInt8 := [180, 0, 114, 27, 46, 172]
abbrev dktX10_wet_1 : List UInt8 := dkwX10_wet_1 ++ []
def dkwX10_wet_0 : List UInt8 := [42, 3, 181, 0, 3, 42, 27, 4, 182, 1, 116, 154, 0, 5, 3, 172, 42, 3, 182, 1, 152, 87, 42]
abbrev dktX10_wet_0 : List UInt8 := dkwX10_wet_0 ++ dktX10_wet_1
theorem dksX10_wet_0 : cX10_wet.data.toList.drop 0 = dktX10_wet_0 := by decide +kernel
theorem dksX10_wet_1 : cX10_wet.data.toList.drop 23 = dktX10_wet_1 := dk_seg dksX10_wet_0 23 rfl rfl
theorem dX10_wet_0 : decode cX10_wet 0 = .ok (.aload_n 0, 1) := dk_42 (dk_at dksX10_wet_0 0 rfl rfl)
theorem dX10_wet_1 : decode cX10_wet 1 = .ok (.iconst 0, 1) := dk_3 (dk_at dksX10_wet_0 1 rfl rfl)
theorem dX10_wet_2 : decode cX10_wet 2 = .ok (.putfield 3, 3) := dk_181 0 3 (dk_at dksX10_wet_0 2 rfl rfl)
theorem dX10_wet_5 : decode cX10_wet 5 = .ok (.aload_n 0, 1) := dk_42 (dk_at dksX10_wet_0 5 rfl rfl)
theorem dX10_wet_6 : decode cX10_wet 6 = .ok (.iload_n 1, 1) := dk_27 (dk_at dksX10_wet_0 6 rfl rfl)
theorem dX10_wet_7 : decode cX10_wet 7 = .ok (.iconst 1, 1) := dk_4 (dk_at dksX10_wet_0 7 rfl rfl)
theorem dX10_wet_8 : decode cX10_wet 8 = .ok (.invokevirtual 372, 3) := dk_182 1 116 (dk_at dksX10_wet_0 8 rfl rfl)
theorem dX10_wet_11 : decode cX10_wet 11 = .ok (.ifCond .ne 5, 3) := dk_154 0 5 (dk_at dksX10_wet_0 11 rfl rfl)
theorem dX10_wet_14 : decode cX10_wet 14 = .ok (.iconst 0, 1) := dk_3 (dk_at dksX10_wet_0 14 rfl rfl)
theorem dX10_wet_15 : decode cX10_wet 15 = .ok (.ireturn, 1) := dk_172 (dk_at dksX10_wet_0 15 rfl rfl)
theorem dX10_wet_16 : decode cX10_wet 16 = .ok (.aload_n 0, 1) := dk_42 (dk_at dksX10_wet_0 16 rfl rfl)
theorem dX10_wet_17 : decode cX10_wet 17 = .ok (.iconst 0, 1) := dk_3 (dk_at dksX10_wet_0 17 rfl rfl)
theorem dX10_wet_18 : decode cX10_wet 18 = .ok (.invokevirtual 408, 3) := dk_182 1 152 (dk_at dksX10_wet_0 18 rfl rfl)
theorem dX10_wet_21 : decode cX10_wet 21 = .ok (.pop, 1) := dk_87 (dk_at dksX10_wet_0 21 rfl rfl)
theorem dX10_wet_22 : decode cX10_wet 22 = .ok (.aload_n 0, 1) := dk_42 (dk_at dksX10_wet_0 22 rfl rfl)
theorem dX10_wet_23 : decode cX10_wet 23 = .ok (.getfield 114, 3) := dk_180 0 114 (dk_at dksX10_wet_1 0 rfl rfl)
theorem dX10_wet_26 : decode cX10_wet 26 = .ok (.iload_n 1, 1) := dk_27 (dk_at dksX10_wet_1 3 rfl rfl)
theorem dX10_wet_27 : decode cX10_wet 27 = .ok (.iaload, 1) := dk_46 (dk_at dksX10_wet_1 4 rfl rfl)
theorem dX10_wet_28 : decode cX10_wet 28 = .ok (.ireturn, 1) := dk_172 (dk_at dksX10_wet_1 5 rfl rfl)
abbrev cX10_idle : ByteArray := prog_19_method_66_code
def yX10_idle : MethodName := ⟨RX10, "idle", "(I)I"⟩
def dkwX10_idle_1 : List UInt8 := [180, 0, 117, 27, 46, 100, 172]
abbrev dktX10_idle_1 : List UInt8 := dkwX10_idle_1 ++ []
def dkwX10_idle_0 : List UInt8 := [42, 3, 181, 0, 3, 42, 27, 4, 182, 1, 116, 154, 0, 5, 3, 172, 42, 3, 182, 1, 152, 42]
abbrev dktX10_idle_0 : List UInt8 := dkwX10_idle_0 ++ dktX10_idle_1
theorem dksX10_idle_0 : cX10_idle.data.toList.drop 0 = dktX10_idle_0 := by decide +kernel
theorem dksX10_idle_1 : cX10_idle.data.toList.drop 22 = dktX10_idle_1 := dk_seg dksX10_idle_0 22 rfl rfl
theorem dX10_idle_0 : decode cX10_idle 0 = .ok (.aload_n 0, 1) := dk_42 (dk_at dksX10_idle_0 0 rfl rfl)
theorem dX10_idle_1 : decode cX10_idle 1 = .ok (.iconst 0, 1) := dk_3 (dk_at dksX10_idle_0 1 rfl rfl)
theorem dX10_idle_2 : decode cX10_idle 2 = .ok (.putfield 3, 3) := dk_181 0 3 (dk_at dksX10_idle_0 2 rfl rfl)
theorem dX10_idle_5 : decode cX10_idle 5 = .ok (.aload_n 0, 1) := dk_42 (dk_at dksX10_idle_0 5 rfl rfl)
theorem dX10_idle_6 : decode cX10_idle 6 = .ok (.iload_n 1, 1) := dk_27 (dk_at dksX10_idle_0 6 rfl rfl)
theorem dX10_idle_7 : decode cX10_idle 7 = .ok (.iconst 1, 1) := dk_4 (dk_at dksX10_idle_0 7 rfl rfl)
theorem dX10_idle_8 : decode cX10_idle 8 = .ok (.invokevirtual 372, 3) := dk_182 1 116 (dk_at dksX10_idle_0 8 rfl rfl)
theorem dX10_idle_11 : decode cX10_idle 11 = .ok (.ifCond .ne 5, 3) := dk_154 0 5 (dk_at dksX10_idle_0 11 rfl rfl)
theorem dX10_idle_14 : decode cX10_idle 14 = .ok (.iconst 0, 1) := dk_3 (dk_at dksX10_idle_0 14 rfl rfl)
theorem dX10_idle_15 : decode cX10_idle 15 = .ok (.ireturn, 1) := dk_172 (dk_at dksX10_idle_0 15 rfl rfl)
theorem dX10_idle_16 : decode cX10_idle 16 = .ok (.aload_n 0, 1) := dk_42 (dk_at dksX10_idle_0 16 rfl rfl)
theorem dX10_idle_17 : decode cX10_idle 17 = .ok (.iconst 0, 1) := dk_3 (dk_at dksX10_idle_0 17 rfl rfl)
theorem dX10_idle_18 : decode cX10_idle 18 = .ok (.invokevirtual 408, 3) := dk_182 1 152 (dk_at dksX10_idle_0 18 rfl rfl)
theorem dX10_idle_21 : decode cX10_idle 21 = .ok (.aload_n 0, 1) := dk_42 (dk_at dksX10_idle_0 21 rfl rfl)
theorem dX10_idle_22 : decode cX10_idle 22 = .ok (.getfield 117, 3) := dk_180 0 117 (dk_at dksX10_idle_1 0 rfl rfl)
theorem dX10_idle_25 : decode cX10_idle 25 = .ok (.iload_n 1, 1) := dk_27 (dk_at dksX10_idle_1 3 rfl rfl)
theorem dX10_idle_26 : decode cX10_idle 26 = .ok (.iaload, 1) := dk_46 (dk_at dksX10_idle_1 4 rfl rfl)
theorem dX10_idle_27 : decode cX10_idle 27 = .ok (.isub, 1) := dk_100 (dk_at dksX10_idle_1 5 rfl rfl)
theorem dX10_idle_28 : decode cX10_idle 28 = .ok (.ireturn, 1) := dk_172 (dk_at dksX10_idle_1 6 rfl rfl)
abbrev cX10_umbrella : ByteArray := prog_19_method_67_code
def yX10_umbrella : MethodName := ⟨RX10, "umbrella", "()I"⟩
def dkwX10_umbrella_2 : List UInt8 := [61, 132, 3, 1, 167, 255, 223, 27, 172]
abbrev dktX10_umbrella_2 : List UInt8 := dkwX10_umbrella_2 ++ []
def dkwX10_umbrella_1 : List UInt8 := [162, 0, 31, 42, 180, 0, 114, 29, 46, 28, 163, 0, 6, 167, 0, 12, 29, 60, 42, 180, 0, 114, 29, 46]
abbrev dktX10_umbrella_1 : List UInt8 := dkwX10_umbrella_1 ++ dktX10_umbrella_2
def dkwX10_umbrella_0 : List UInt8 := [42, 3, 181, 0, 3, 42, 3, 182, 1, 152, 87, 2, 60, 3, 61, 3, 62, 29, 42, 180, 0, 214]
abbrev dktX10_umbrella_0 : List UInt8 := dkwX10_umbrella_0 ++ dktX10_umbrella_1
theorem dksX10_umbrella_0 : cX10_umbrella.data.toList.drop 0 = dktX10_umbrella_0 := by decide +kernel
theorem dksX10_umbrella_1 : cX10_umbrella.data.toList.drop 22 = dktX10_umbrella_1 := dk_seg dksX10_umbrella_0 22 rfl rfl
theorem dksX10_umbrella_2 : cX10_umbrella.data.toList.drop 46 = dktX10_umbrella_2 := dk_seg dksX10_umbrella_1 24 rfl rfl
theorem dX10_umbrella_0 : decode cX10_umbrella 0 = .ok (.aload_n 0, 1) := dk_42 (dk_at dksX10_umbrella_0 0 rfl rfl)
theorem dX10_umbrella_1 : decode cX10_umbrella 1 = .ok (.iconst 0, 1) := dk_3 (dk_at dksX10_umbrella_0 1 rfl rfl)
theorem dX10_umbrella_2 : decode cX10_umbrella 2 = .ok (.putfield 3, 3) := dk_181 0 3 (dk_at dksX10_umbrella_0 2 rfl rfl)
theorem dX10_umbrella_5 : decode cX10_umbrella 5 = .ok (.aload_n 0, 1) := dk_42 (dk_at dksX10_umbrella_0 5 rfl rfl)
theorem dX10_umbrella_6 : decode cX10_umbrella 6 = .ok (.iconst 0, 1) := dk_3 (dk_at dksX10_umbrella_0 6 rfl rfl)
theorem dX10_umbrella_7 : decode cX10_umbrella 7 = .ok (.invokevirtual 408, 3) := dk_182 1 152 (dk_at dksX10_umbrella_0 7 rfl rfl)
theorem dX10_umbrella_10 : decode cX10_umbrella 10 = .ok (.pop, 1) := dk_87 (dk_at dksX10_umbrella_0 10 rfl rfl)
theorem dX10_umbrella_11 : decode cX10_umbrella 11 = .ok (.iconst (-1), 1) := dk_2 (dk_at dksX10_umbrella_0 11 rfl rfl)
theorem dX10_umbrella_12 : decode cX10_umbrella 12 = .ok (.istore_n 1, 1) := dk_60 (dk_at dksX10_umbrella_0 12 rfl rfl)
theorem dX10_umbrella_13 : decode cX10_umbrella 13 = .ok (.iconst 0, 1) := dk_3 (dk_at dksX10_umbrella_0 13 rfl rfl)
theorem dX10_umbrella_14 : decode cX10_umbrella 14 = .ok (.istore_n 2, 1) := dk_61 (dk_at dksX10_umbrella_0 14 rfl rfl)
theorem dX10_umbrella_15 : decode cX10_umbrella 15 = .ok (.iconst 0, 1) := dk_3 (dk_at dksX10_umbrella_0 15 rfl rfl)
theorem dX10_umbrella_16 : decode cX10_umbrella 16 = .ok (.istore_n 3, 1) := dk_62 (dk_at dksX10_umbrella_0 16 rfl rfl)
theorem dX10_umbrella_17 : decode cX10_umbrella 17 = .ok (.iload_n 3, 1) := dk_29 (dk_at dksX10_umbrella_0 17 rfl rfl)
theorem dX10_umbrella_18 : decode cX10_umbrella 18 = .ok (.aload_n 0, 1) := dk_42 (dk_at dksX10_umbrella_0 18 rfl rfl)
theorem dX10_umbrella_19 : decode cX10_umbrella 19 = .ok (.getfield 214, 3) := dk_180 0 214 (dk_at dksX10_umbrella_0 19 rfl rfl)
theorem dX10_umbrella_22 : decode cX10_umbrella 22 = .ok (.if_icmp .ge 31, 3) := dk_162 0 31 (dk_at dksX10_umbrella_1 0 rfl rfl)
theorem dX10_umbrella_25 : decode cX10_umbrella 25 = .ok (.aload_n 0, 1) := dk_42 (dk_at dksX10_umbrella_1 3 rfl rfl)
theorem dX10_umbrella_26 : decode cX10_umbrella 26 = .ok (.getfield 114, 3) := dk_180 0 114 (dk_at dksX10_umbrella_1 4 rfl rfl)
theorem dX10_umbrella_29 : decode cX10_umbrella 29 = .ok (.iload_n 3, 1) := dk_29 (dk_at dksX10_umbrella_1 7 rfl rfl)
theorem dX10_umbrella_30 : decode cX10_umbrella 30 = .ok (.iaload, 1) := dk_46 (dk_at dksX10_umbrella_1 8 rfl rfl)
theorem dX10_umbrella_31 : decode cX10_umbrella 31 = .ok (.iload_n 2, 1) := dk_28 (dk_at dksX10_umbrella_1 9 rfl rfl)
theorem dX10_umbrella_32 : decode cX10_umbrella 32 = .ok (.if_icmp .gt 6, 3) := dk_163 0 6 (dk_at dksX10_umbrella_1 10 rfl rfl)
theorem dX10_umbrella_35 : decode cX10_umbrella 35 = .ok (.goto 12, 3) := dk_167 0 12 (dk_at dksX10_umbrella_1 13 rfl rfl)
theorem dX10_umbrella_38 : decode cX10_umbrella 38 = .ok (.iload_n 3, 1) := dk_29 (dk_at dksX10_umbrella_1 16 rfl rfl)
theorem dX10_umbrella_39 : decode cX10_umbrella 39 = .ok (.istore_n 1, 1) := dk_60 (dk_at dksX10_umbrella_1 17 rfl rfl)
theorem dX10_umbrella_40 : decode cX10_umbrella 40 = .ok (.aload_n 0, 1) := dk_42 (dk_at dksX10_umbrella_1 18 rfl rfl)
theorem dX10_umbrella_41 : decode cX10_umbrella 41 = .ok (.getfield 114, 3) := dk_180 0 114 (dk_at dksX10_umbrella_1 19 rfl rfl)
theorem dX10_umbrella_44 : decode cX10_umbrella 44 = .ok (.iload_n 3, 1) := dk_29 (dk_at dksX10_umbrella_1 22 rfl rfl)
theorem dX10_umbrella_45 : decode cX10_umbrella 45 = .ok (.iaload, 1) := dk_46 (dk_at dksX10_umbrella_1 23 rfl rfl)
theorem dX10_umbrella_46 : decode cX10_umbrella 46 = .ok (.istore_n 2, 1) := dk_61 (dk_at dksX10_umbrella_2 0 rfl rfl)
theorem dX10_umbrella_47 : decode cX10_umbrella 47 = .ok (.iinc 3 1, 3) := dk_132 3 1 (dk_at dksX10_umbrella_2 1 rfl rfl)
theorem dX10_umbrella_50 : decode cX10_umbrella 50 = .ok (.goto (-33), 3) := dk_167 255 223 (dk_at dksX10_umbrella_2 4 rfl rfl)
theorem dX10_umbrella_53 : decode cX10_umbrella 53 = .ok (.iload_n 1, 1) := dk_27 (dk_at dksX10_umbrella_2 7 rfl rfl)
theorem dX10_umbrella_54 : decode cX10_umbrella 54 = .ok (.ireturn, 1) := dk_172 (dk_at dksX10_umbrella_2 8 rfl rfl)
abbrev cX10_slack : ByteArray := prog_19_method_69_code
def yX10_slack : MethodName := ⟨RX10, "slack", "(I)I"⟩
def dkwX10_slack_0 : List UInt8 := [42, 3, 181, 0, 3, 42, 27, 4, 182, 1, 112, 154, 0, 5, 3, 172, 42, 27, 182, 1, 156, 172]
abbrev dktX10_slack_0 : List UInt8 := dkwX10_slack_0 ++ []
theorem dksX10_slack_0 : cX10_slack.data.toList.drop 0 = dktX10_slack_0 := by decide +kernel
theorem dX10_slack_0 : decode cX10_slack 0 = .ok (.aload_n 0, 1) := dk_42 (dk_at dksX10_slack_0 0 rfl rfl)
theorem dX10_slack_1 : decode cX10_slack 1 = .ok (.iconst 0, 1) := dk_3 (dk_at dksX10_slack_0 1 rfl rfl)
theorem dX10_slack_2 : decode cX10_slack 2 = .ok (.putfield 3, 3) := dk_181 0 3 (dk_at dksX10_slack_0 2 rfl rfl)
theorem dX10_slack_5 : decode cX10_slack 5 = .ok (.aload_n 0, 1) := dk_42 (dk_at dksX10_slack_0 5 rfl rfl)
theorem dX10_slack_6 : decode cX10_slack 6 = .ok (.iload_n 1, 1) := dk_27 (dk_at dksX10_slack_0 6 rfl rfl)
theorem dX10_slack_7 : decode cX10_slack 7 = .ok (.iconst 1, 1) := dk_4 (dk_at dksX10_slack_0 7 rfl rfl)
theorem dX10_slack_8 : decode cX10_slack 8 = .ok (.invokevirtual 368, 3) := dk_182 1 112 (dk_at dksX10_slack_0 8 rfl rfl)
theorem dX10_slack_11 : decode cX10_slack 11 = .ok (.ifCond .ne 5, 3) := dk_154 0 5 (dk_at dksX10_slack_0 11 rfl rfl)
theorem dX10_slack_14 : decode cX10_slack 14 = .ok (.iconst 0, 1) := dk_3 (dk_at dksX10_slack_0 14 rfl rfl)
theorem dX10_slack_15 : decode cX10_slack 15 = .ok (.ireturn, 1) := dk_172 (dk_at dksX10_slack_0 15 rfl rfl)
theorem dX10_slack_16 : decode cX10_slack 16 = .ok (.aload_n 0, 1) := dk_42 (dk_at dksX10_slack_0 16 rfl rfl)
theorem dX10_slack_17 : decode cX10_slack 17 = .ok (.iload_n 1, 1) := dk_27 (dk_at dksX10_slack_0 17 rfl rfl)
theorem dX10_slack_18 : decode cX10_slack 18 = .ok (.invokevirtual 412, 3) := dk_182 1 156 (dk_at dksX10_slack_0 18 rfl rfl)
theorem dX10_slack_21 : decode cX10_slack 21 = .ok (.ireturn, 1) := dk_172 (dk_at dksX10_slack_0 21 rfl rfl)
abbrev cX10_slackOf : ByteArray := prog_19_method_68_code
def yX10_slackOf : MethodName := ⟨RX10, "slackOf", "(I)I"⟩
def dkwX10_slackOf_2 : List UInt8 := [180, 0, 120, 27, 29, 4, 96, 79, 167, 255, 229, 42, 180, 0, 120, 27, 3, 79, 29, 172]
abbrev dktX10_slackOf_2 : List UInt8 := dkwX10_slackOf_2 ++ []
def dkwX10_slackOf_1 : List UInt8 := [27, 4, 79, 29, 16, 99, 162, 0, 27, 42, 3, 182, 1, 152, 28, 163, 0, 18, 132, 3, 1, 42]
abbrev dktX10_slackOf_1 : List UInt8 := dkwX10_slackOf_1 ++ dktX10_slackOf_2
def dkwX10_slackOf_0 : List UInt8 := [42, 3, 182, 1, 152, 61, 42, 180, 0, 111, 27, 46, 2, 160, 0, 5, 2, 172, 3, 62, 42, 180, 0, 120]
abbrev dktX10_slackOf_0 : List UInt8 := dkwX10_slackOf_0 ++ dktX10_slackOf_1
theorem dksX10_slackOf_0 : cX10_slackOf.data.toList.drop 0 = dktX10_slackOf_0 := by decide +kernel
theorem dksX10_slackOf_1 : cX10_slackOf.data.toList.drop 24 = dktX10_slackOf_1 := dk_seg dksX10_slackOf_0 24 rfl rfl
theorem dksX10_slackOf_2 : cX10_slackOf.data.toList.drop 46 = dktX10_slackOf_2 := dk_seg dksX10_slackOf_1 22 rfl rfl
theorem dX10_slackOf_0 : decode cX10_slackOf 0 = .ok (.aload_n 0, 1) := dk_42 (dk_at dksX10_slackOf_0 0 rfl rfl)
theorem dX10_slackOf_1 : decode cX10_slackOf 1 = .ok (.iconst 0, 1) := dk_3 (dk_at dksX10_slackOf_0 1 rfl rfl)
theorem dX10_slackOf_2 : decode cX10_slackOf 2 = .ok (.invokevirtual 408, 3) := dk_182 1 152 (dk_at dksX10_slackOf_0 2 rfl rfl)
theorem dX10_slackOf_5 : decode cX10_slackOf 5 = .ok (.istore_n 2, 1) := dk_61 (dk_at dksX10_slackOf_0 5 rfl rfl)
theorem dX10_slackOf_6 : decode cX10_slackOf 6 = .ok (.aload_n 0, 1) := dk_42 (dk_at dksX10_slackOf_0 6 rfl rfl)
theorem dX10_slackOf_7 : decode cX10_slackOf 7 = .ok (.getfield 111, 3) := dk_180 0 111 (dk_at dksX10_slackOf_0 7 rfl rfl)
theorem dX10_slackOf_10 : decode cX10_slackOf 10 = .ok (.iload_n 1, 1) := dk_27 (dk_at dksX10_slackOf_0 10 rfl rfl)
theorem dX10_slackOf_11 : decode cX10_slackOf 11 = .ok (.iaload, 1) := dk_46 (dk_at dksX10_slackOf_0 11 rfl rfl)
theorem dX10_slackOf_12 : decode cX10_slackOf 12 = .ok (.iconst (-1), 1) := dk_2 (dk_at dksX10_slackOf_0 12 rfl rfl)
theorem dX10_slackOf_13 : decode cX10_slackOf 13 = .ok (.if_icmp .ne 5, 3) := dk_160 0 5 (dk_at dksX10_slackOf_0 13 rfl rfl)
theorem dX10_slackOf_16 : decode cX10_slackOf 16 = .ok (.iconst (-1), 1) := dk_2 (dk_at dksX10_slackOf_0 16 rfl rfl)
theorem dX10_slackOf_17 : decode cX10_slackOf 17 = .ok (.ireturn, 1) := dk_172 (dk_at dksX10_slackOf_0 17 rfl rfl)
theorem dX10_slackOf_18 : decode cX10_slackOf 18 = .ok (.iconst 0, 1) := dk_3 (dk_at dksX10_slackOf_0 18 rfl rfl)
theorem dX10_slackOf_19 : decode cX10_slackOf 19 = .ok (.istore_n 3, 1) := dk_62 (dk_at dksX10_slackOf_0 19 rfl rfl)
theorem dX10_slackOf_20 : decode cX10_slackOf 20 = .ok (.aload_n 0, 1) := dk_42 (dk_at dksX10_slackOf_0 20 rfl rfl)
theorem dX10_slackOf_21 : decode cX10_slackOf 21 = .ok (.getfield 120, 3) := dk_180 0 120 (dk_at dksX10_slackOf_0 21 rfl rfl)
theorem dX10_slackOf_24 : decode cX10_slackOf 24 = .ok (.iload_n 1, 1) := dk_27 (dk_at dksX10_slackOf_1 0 rfl rfl)
theorem dX10_slackOf_25 : decode cX10_slackOf 25 = .ok (.iconst 1, 1) := dk_4 (dk_at dksX10_slackOf_1 1 rfl rfl)
theorem dX10_slackOf_26 : decode cX10_slackOf 26 = .ok (.iastore, 1) := dk_79 (dk_at dksX10_slackOf_1 2 rfl rfl)
theorem dX10_slackOf_27 : decode cX10_slackOf 27 = .ok (.iload_n 3, 1) := dk_29 (dk_at dksX10_slackOf_1 3 rfl rfl)
theorem dX10_slackOf_28 : decode cX10_slackOf 28 = .ok (.bipush 99, 2) := dk_16 99 (dk_at dksX10_slackOf_1 4 rfl rfl)
theorem dX10_slackOf_30 : decode cX10_slackOf 30 = .ok (.if_icmp .ge 27, 3) := dk_162 0 27 (dk_at dksX10_slackOf_1 6 rfl rfl)
theorem dX10_slackOf_33 : decode cX10_slackOf 33 = .ok (.aload_n 0, 1) := dk_42 (dk_at dksX10_slackOf_1 9 rfl rfl)
theorem dX10_slackOf_34 : decode cX10_slackOf 34 = .ok (.iconst 0, 1) := dk_3 (dk_at dksX10_slackOf_1 10 rfl rfl)
theorem dX10_slackOf_35 : decode cX10_slackOf 35 = .ok (.invokevirtual 408, 3) := dk_182 1 152 (dk_at dksX10_slackOf_1 11 rfl rfl)
theorem dX10_slackOf_38 : decode cX10_slackOf 38 = .ok (.iload_n 2, 1) := dk_28 (dk_at dksX10_slackOf_1 14 rfl rfl)
theorem dX10_slackOf_39 : decode cX10_slackOf 39 = .ok (.if_icmp .gt 18, 3) := dk_163 0 18 (dk_at dksX10_slackOf_1 15 rfl rfl)
theorem dX10_slackOf_42 : decode cX10_slackOf 42 = .ok (.iinc 3 1, 3) := dk_132 3 1 (dk_at dksX10_slackOf_1 18 rfl rfl)
theorem dX10_slackOf_45 : decode cX10_slackOf 45 = .ok (.aload_n 0, 1) := dk_42 (dk_at dksX10_slackOf_1 21 rfl rfl)
theorem dX10_slackOf_46 : decode cX10_slackOf 46 = .ok (.getfield 120, 3) := dk_180 0 120 (dk_at dksX10_slackOf_2 0 rfl rfl)
theorem dX10_slackOf_49 : decode cX10_slackOf 49 = .ok (.iload_n 1, 1) := dk_27 (dk_at dksX10_slackOf_2 3 rfl rfl)
theorem dX10_slackOf_50 : decode cX10_slackOf 50 = .ok (.iload_n 3, 1) := dk_29 (dk_at dksX10_slackOf_2 4 rfl rfl)
theorem dX10_slackOf_51 : decode cX10_slackOf 51 = .ok (.iconst 1, 1) := dk_4 (dk_at dksX10_slackOf_2 5 rfl rfl)
theorem dX10_slackOf_52 : decode cX10_slackOf 52 = .ok (.iadd, 1) := dk_96 (dk_at dksX10_slackOf_2 6 rfl rfl)
theorem dX10_slackOf_53 : decode cX10_slackOf 53 = .ok (.iastore, 1) := dk_79 (dk_at dksX10_slackOf_2 7 rfl rfl)
theorem dX10_slackOf_54 : decode cX10_slackOf 54 = .ok (.goto (-27), 3) := dk_167 255 229 (dk_at dksX10_slackOf_2 8 rfl rfl)
theorem dX10_slackOf_57 : decode cX10_slackOf 57 = .ok (.aload_n 0, 1) := dk_42 (dk_at dksX10_slackOf_2 11 rfl rfl)
theorem dX10_slackOf_58 : decode cX10_slackOf 58 = .ok (.getfield 120, 3) := dk_180 0 120 (dk_at dksX10_slackOf_2 12 rfl rfl)
theorem dX10_slackOf_61 : decode cX10_slackOf 61 = .ok (.iload_n 1, 1) := dk_27 (dk_at dksX10_slackOf_2 15 rfl rfl)
theorem dX10_slackOf_62 : decode cX10_slackOf 62 = .ok (.iconst 0, 1) := dk_3 (dk_at dksX10_slackOf_2 16 rfl rfl)
theorem dX10_slackOf_63 : decode cX10_slackOf 63 = .ok (.iastore, 1) := dk_79 (dk_at dksX10_slackOf_2 17 rfl rfl)
theorem dX10_slackOf_64 : decode cX10_slackOf 64 = .ok (.iload_n 3, 1) := dk_29 (dk_at dksX10_slackOf_2 18 rfl rfl)
theorem dX10_slackOf_65 : decode cX10_slackOf 65 = .ok (.ireturn, 1) := dk_172 (dk_at dksX10_slackOf_2 19 rfl rfl)
abbrev cX10_urgent : ByteArray := prog_19_method_70_code
def yX10_urgent : MethodName := ⟨RX10, "urgent", "()I"⟩
def dkwX10_urgent_1 : List UInt8 := [154, 0, 9, 4, 28, 120, 167, 0, 4, 3, 128, 60, 132, 2, 1, 167, 255, 227, 27, 172]
abbrev dktX10_urgent_1 : List UInt8 := dkwX10_urgent_1 ++ []
def dkwX10_urgent_0 : List UInt8 := [42, 3, 181, 0, 3, 3, 60, 3, 61, 28, 42, 180, 0, 217, 162, 0, 27, 27, 42, 28, 182, 1, 156]
abbrev dktX10_urgent_0 : List UInt8 := dkwX10_urgent_0 ++ dktX10_urgent_1
theorem dksX10_urgent_0 : cX10_urgent.data.toList.drop 0 = dktX10_urgent_0 := by decide +kernel
theorem dksX10_urgent_1 : cX10_urgent.data.toList.drop 23 = dktX10_urgent_1 := dk_seg dksX10_urgent_0 23 rfl rfl
theorem dX10_urgent_0 : decode cX10_urgent 0 = .ok (.aload_n 0, 1) := dk_42 (dk_at dksX10_urgent_0 0 rfl rfl)
theorem dX10_urgent_1 : decode cX10_urgent 1 = .ok (.iconst 0, 1) := dk_3 (dk_at dksX10_urgent_0 1 rfl rfl)
theorem dX10_urgent_2 : decode cX10_urgent 2 = .ok (.putfield 3, 3) := dk_181 0 3 (dk_at dksX10_urgent_0 2 rfl rfl)
theorem dX10_urgent_5 : decode cX10_urgent 5 = .ok (.iconst 0, 1) := dk_3 (dk_at dksX10_urgent_0 5 rfl rfl)
theorem dX10_urgent_6 : decode cX10_urgent 6 = .ok (.istore_n 1, 1) := dk_60 (dk_at dksX10_urgent_0 6 rfl rfl)
theorem dX10_urgent_7 : decode cX10_urgent 7 = .ok (.iconst 0, 1) := dk_3 (dk_at dksX10_urgent_0 7 rfl rfl)
theorem dX10_urgent_8 : decode cX10_urgent 8 = .ok (.istore_n 2, 1) := dk_61 (dk_at dksX10_urgent_0 8 rfl rfl)
theorem dX10_urgent_9 : decode cX10_urgent 9 = .ok (.iload_n 2, 1) := dk_28 (dk_at dksX10_urgent_0 9 rfl rfl)
theorem dX10_urgent_10 : decode cX10_urgent 10 = .ok (.aload_n 0, 1) := dk_42 (dk_at dksX10_urgent_0 10 rfl rfl)
theorem dX10_urgent_11 : decode cX10_urgent 11 = .ok (.getfield 217, 3) := dk_180 0 217 (dk_at dksX10_urgent_0 11 rfl rfl)
theorem dX10_urgent_14 : decode cX10_urgent 14 = .ok (.if_icmp .ge 27, 3) := dk_162 0 27 (dk_at dksX10_urgent_0 14 rfl rfl)
theorem dX10_urgent_17 : decode cX10_urgent 17 = .ok (.iload_n 1, 1) := dk_27 (dk_at dksX10_urgent_0 17 rfl rfl)
theorem dX10_urgent_18 : decode cX10_urgent 18 = .ok (.aload_n 0, 1) := dk_42 (dk_at dksX10_urgent_0 18 rfl rfl)
theorem dX10_urgent_19 : decode cX10_urgent 19 = .ok (.iload_n 2, 1) := dk_28 (dk_at dksX10_urgent_0 19 rfl rfl)
theorem dX10_urgent_20 : decode cX10_urgent 20 = .ok (.invokevirtual 412, 3) := dk_182 1 156 (dk_at dksX10_urgent_0 20 rfl rfl)
theorem dX10_urgent_23 : decode cX10_urgent 23 = .ok (.ifCond .ne 9, 3) := dk_154 0 9 (dk_at dksX10_urgent_1 0 rfl rfl)
theorem dX10_urgent_26 : decode cX10_urgent 26 = .ok (.iconst 1, 1) := dk_4 (dk_at dksX10_urgent_1 3 rfl rfl)
theorem dX10_urgent_27 : decode cX10_urgent 27 = .ok (.iload_n 2, 1) := dk_28 (dk_at dksX10_urgent_1 4 rfl rfl)
theorem dX10_urgent_28 : decode cX10_urgent 28 = .ok (.ishl, 1) := dk_120 (dk_at dksX10_urgent_1 5 rfl rfl)
theorem dX10_urgent_29 : decode cX10_urgent 29 = .ok (.goto 4, 3) := dk_167 0 4 (dk_at dksX10_urgent_1 6 rfl rfl)
theorem dX10_urgent_32 : decode cX10_urgent 32 = .ok (.iconst 0, 1) := dk_3 (dk_at dksX10_urgent_1 9 rfl rfl)
theorem dX10_urgent_33 : decode cX10_urgent 33 = .ok (.ior, 1) := dk_128 (dk_at dksX10_urgent_1 10 rfl rfl)
theorem dX10_urgent_34 : decode cX10_urgent 34 = .ok (.istore_n 1, 1) := dk_60 (dk_at dksX10_urgent_1 11 rfl rfl)
theorem dX10_urgent_35 : decode cX10_urgent 35 = .ok (.iinc 2 1, 3) := dk_132 2 1 (dk_at dksX10_urgent_1 12 rfl rfl)
theorem dX10_urgent_38 : decode cX10_urgent 38 = .ok (.goto (-29), 3) := dk_167 255 227 (dk_at dksX10_urgent_1 15 rfl rfl)
theorem dX10_urgent_41 : decode cX10_urgent 41 = .ok (.iload_n 1, 1) := dk_27 (dk_at dksX10_urgent_1 18 rfl rfl)
theorem dX10_urgent_42 : decode cX10_urgent 42 = .ok (.ireturn, 1) := dk_172 (dk_at dksX10_urgent_1 19 rfl rfl)
abbrev cX10_ahead : ByteArray := prog_19_method_71_code
def yX10_ahead : MethodName := ⟨RX10, "ahead", "(I)I"⟩
def dkwX10_ahead_2 : List UInt8 := [180, 0, 44, 8, 29, 104, 7, 96, 46, 167, 0, 4, 3, 128, 61, 132, 3, 255, 167, 255, 223, 28, 172]
abbrev dktX10_ahead_2 : List UInt8 := dkwX10_ahead_2 ++ []
def dkwX10_ahead_1 : List UInt8 := [96, 46, 61, 27, 4, 100, 62, 29, 155, 0, 35, 28, 28, 29, 122, 4, 126, 4, 160, 0, 16, 42]
abbrev dktX10_ahead_1 : List UInt8 := dkwX10_ahead_1 ++ dktX10_ahead_2
def dkwX10_ahead_0 : List UInt8 := [42, 3, 181, 0, 3, 42, 27, 4, 182, 1, 112, 154, 0, 5, 3, 172, 42, 180, 0, 44, 8, 27, 104, 7]
abbrev dktX10_ahead_0 : List UInt8 := dkwX10_ahead_0 ++ dktX10_ahead_1
theorem dksX10_ahead_0 : cX10_ahead.data.toList.drop 0 = dktX10_ahead_0 := by decide +kernel
theorem dksX10_ahead_1 : cX10_ahead.data.toList.drop 24 = dktX10_ahead_1 := dk_seg dksX10_ahead_0 24 rfl rfl
theorem dksX10_ahead_2 : cX10_ahead.data.toList.drop 46 = dktX10_ahead_2 := dk_seg dksX10_ahead_1 22 rfl rfl
theorem dX10_ahead_0 : decode cX10_ahead 0 = .ok (.aload_n 0, 1) := dk_42 (dk_at dksX10_ahead_0 0 rfl rfl)
theorem dX10_ahead_1 : decode cX10_ahead 1 = .ok (.iconst 0, 1) := dk_3 (dk_at dksX10_ahead_0 1 rfl rfl)
theorem dX10_ahead_2 : decode cX10_ahead 2 = .ok (.putfield 3, 3) := dk_181 0 3 (dk_at dksX10_ahead_0 2 rfl rfl)
theorem dX10_ahead_5 : decode cX10_ahead 5 = .ok (.aload_n 0, 1) := dk_42 (dk_at dksX10_ahead_0 5 rfl rfl)
theorem dX10_ahead_6 : decode cX10_ahead 6 = .ok (.iload_n 1, 1) := dk_27 (dk_at dksX10_ahead_0 6 rfl rfl)
theorem dX10_ahead_7 : decode cX10_ahead 7 = .ok (.iconst 1, 1) := dk_4 (dk_at dksX10_ahead_0 7 rfl rfl)
theorem dX10_ahead_8 : decode cX10_ahead 8 = .ok (.invokevirtual 368, 3) := dk_182 1 112 (dk_at dksX10_ahead_0 8 rfl rfl)
theorem dX10_ahead_11 : decode cX10_ahead 11 = .ok (.ifCond .ne 5, 3) := dk_154 0 5 (dk_at dksX10_ahead_0 11 rfl rfl)
theorem dX10_ahead_14 : decode cX10_ahead 14 = .ok (.iconst 0, 1) := dk_3 (dk_at dksX10_ahead_0 14 rfl rfl)
theorem dX10_ahead_15 : decode cX10_ahead 15 = .ok (.ireturn, 1) := dk_172 (dk_at dksX10_ahead_0 15 rfl rfl)
theorem dX10_ahead_16 : decode cX10_ahead 16 = .ok (.aload_n 0, 1) := dk_42 (dk_at dksX10_ahead_0 16 rfl rfl)
theorem dX10_ahead_17 : decode cX10_ahead 17 = .ok (.getfield 44, 3) := dk_180 0 44 (dk_at dksX10_ahead_0 17 rfl rfl)
theorem dX10_ahead_20 : decode cX10_ahead 20 = .ok (.iconst 5, 1) := dk_8 (dk_at dksX10_ahead_0 20 rfl rfl)
theorem dX10_ahead_21 : decode cX10_ahead 21 = .ok (.iload_n 1, 1) := dk_27 (dk_at dksX10_ahead_0 21 rfl rfl)
theorem dX10_ahead_22 : decode cX10_ahead 22 = .ok (.imul, 1) := dk_104 (dk_at dksX10_ahead_0 22 rfl rfl)
theorem dX10_ahead_23 : decode cX10_ahead 23 = .ok (.iconst 4, 1) := dk_7 (dk_at dksX10_ahead_0 23 rfl rfl)
theorem dX10_ahead_24 : decode cX10_ahead 24 = .ok (.iadd, 1) := dk_96 (dk_at dksX10_ahead_1 0 rfl rfl)
theorem dX10_ahead_25 : decode cX10_ahead 25 = .ok (.iaload, 1) := dk_46 (dk_at dksX10_ahead_1 1 rfl rfl)
theorem dX10_ahead_26 : decode cX10_ahead 26 = .ok (.istore_n 2, 1) := dk_61 (dk_at dksX10_ahead_1 2 rfl rfl)
theorem dX10_ahead_27 : decode cX10_ahead 27 = .ok (.iload_n 1, 1) := dk_27 (dk_at dksX10_ahead_1 3 rfl rfl)
theorem dX10_ahead_28 : decode cX10_ahead 28 = .ok (.iconst 1, 1) := dk_4 (dk_at dksX10_ahead_1 4 rfl rfl)
theorem dX10_ahead_29 : decode cX10_ahead 29 = .ok (.isub, 1) := dk_100 (dk_at dksX10_ahead_1 5 rfl rfl)
theorem dX10_ahead_30 : decode cX10_ahead 30 = .ok (.istore_n 3, 1) := dk_62 (dk_at dksX10_ahead_1 6 rfl rfl)
theorem dX10_ahead_31 : decode cX10_ahead 31 = .ok (.iload_n 3, 1) := dk_29 (dk_at dksX10_ahead_1 7 rfl rfl)
theorem dX10_ahead_32 : decode cX10_ahead 32 = .ok (.ifCond .lt 35, 3) := dk_155 0 35 (dk_at dksX10_ahead_1 8 rfl rfl)
theorem dX10_ahead_35 : decode cX10_ahead 35 = .ok (.iload_n 2, 1) := dk_28 (dk_at dksX10_ahead_1 11 rfl rfl)
theorem dX10_ahead_36 : decode cX10_ahead 36 = .ok (.iload_n 2, 1) := dk_28 (dk_at dksX10_ahead_1 12 rfl rfl)
theorem dX10_ahead_37 : decode cX10_ahead 37 = .ok (.iload_n 3, 1) := dk_29 (dk_at dksX10_ahead_1 13 rfl rfl)
theorem dX10_ahead_38 : decode cX10_ahead 38 = .ok (.ishr, 1) := dk_122 (dk_at dksX10_ahead_1 14 rfl rfl)
theorem dX10_ahead_39 : decode cX10_ahead 39 = .ok (.iconst 1, 1) := dk_4 (dk_at dksX10_ahead_1 15 rfl rfl)
theorem dX10_ahead_40 : decode cX10_ahead 40 = .ok (.iand, 1) := dk_126 (dk_at dksX10_ahead_1 16 rfl rfl)
theorem dX10_ahead_41 : decode cX10_ahead 41 = .ok (.iconst 1, 1) := dk_4 (dk_at dksX10_ahead_1 17 rfl rfl)
theorem dX10_ahead_42 : decode cX10_ahead 42 = .ok (.if_icmp .ne 16, 3) := dk_160 0 16 (dk_at dksX10_ahead_1 18 rfl rfl)
theorem dX10_ahead_45 : decode cX10_ahead 45 = .ok (.aload_n 0, 1) := dk_42 (dk_at dksX10_ahead_1 21 rfl rfl)
theorem dX10_ahead_46 : decode cX10_ahead 46 = .ok (.getfield 44, 3) := dk_180 0 44 (dk_at dksX10_ahead_2 0 rfl rfl)
theorem dX10_ahead_49 : decode cX10_ahead 49 = .ok (.iconst 5, 1) := dk_8 (dk_at dksX10_ahead_2 3 rfl rfl)
theorem dX10_ahead_50 : decode cX10_ahead 50 = .ok (.iload_n 3, 1) := dk_29 (dk_at dksX10_ahead_2 4 rfl rfl)
theorem dX10_ahead_51 : decode cX10_ahead 51 = .ok (.imul, 1) := dk_104 (dk_at dksX10_ahead_2 5 rfl rfl)
theorem dX10_ahead_52 : decode cX10_ahead 52 = .ok (.iconst 4, 1) := dk_7 (dk_at dksX10_ahead_2 6 rfl rfl)
theorem dX10_ahead_53 : decode cX10_ahead 53 = .ok (.iadd, 1) := dk_96 (dk_at dksX10_ahead_2 7 rfl rfl)
theorem dX10_ahead_54 : decode cX10_ahead 54 = .ok (.iaload, 1) := dk_46 (dk_at dksX10_ahead_2 8 rfl rfl)
theorem dX10_ahead_55 : decode cX10_ahead 55 = .ok (.goto 4, 3) := dk_167 0 4 (dk_at dksX10_ahead_2 9 rfl rfl)
theorem dX10_ahead_58 : decode cX10_ahead 58 = .ok (.iconst 0, 1) := dk_3 (dk_at dksX10_ahead_2 12 rfl rfl)
theorem dX10_ahead_59 : decode cX10_ahead 59 = .ok (.ior, 1) := dk_128 (dk_at dksX10_ahead_2 13 rfl rfl)
theorem dX10_ahead_60 : decode cX10_ahead 60 = .ok (.istore_n 2, 1) := dk_61 (dk_at dksX10_ahead_2 14 rfl rfl)
theorem dX10_ahead_61 : decode cX10_ahead 61 = .ok (.iinc 3 (-1), 3) := dk_132 3 255 (dk_at dksX10_ahead_2 15 rfl rfl)
theorem dX10_ahead_64 : decode cX10_ahead 64 = .ok (.goto (-33), 3) := dk_167 255 223 (dk_at dksX10_ahead_2 18 rfl rfl)
theorem dX10_ahead_67 : decode cX10_ahead 67 = .ok (.iload_n 2, 1) := dk_28 (dk_at dksX10_ahead_2 21 rfl rfl)
theorem dX10_ahead_68 : decode cX10_ahead 68 = .ok (.ireturn, 1) := dk_172 (dk_at dksX10_ahead_2 22 rfl rfl)
abbrev cX10_chain : ByteArray := prog_19_method_72_code
def yX10_chain : MethodName := ⟨RX10, "chain", "(I)I"⟩
def dkwX10_chain_4 : List UInt8 := [96, 46, 29, 96, 79, 132, 2, 1, 167, 255, 171, 42, 180, 0, 123, 27, 46, 172]
abbrev dktX10_chain_4 : List UInt8 := dkwX10_chain_4 ++ []
def dkwX10_chain_3 : List UInt8 := [167, 0, 4, 29, 62, 132, 4, 1, 167, 255, 205, 42, 180, 0, 123, 28, 42, 180, 0, 44, 8, 28, 104, 3]
abbrev dktX10_chain_3 : List UInt8 := dkwX10_chain_3 ++ dktX10_chain_4
def dkwX10_chain_2 : List UInt8 := [126, 4, 160, 0, 24, 42, 180, 0, 123, 21, 4, 46, 29, 164, 0, 13, 42, 180, 0, 123, 21, 4, 46]
abbrev dktX10_chain_2 : List UInt8 := dkwX10_chain_2 ++ dktX10_chain_3
def dkwX10_chain_1 : List UInt8 := [62, 3, 54, 4, 21, 4, 28, 162, 0, 51, 42, 180, 0, 44, 8, 28, 104, 7, 96, 46, 21, 4, 122, 4]
abbrev dktX10_chain_1 : List UInt8 := dkwX10_chain_1 ++ dktX10_chain_2
def dkwX10_chain_0 : List UInt8 := [42, 3, 181, 0, 3, 42, 27, 4, 182, 1, 112, 154, 0, 5, 3, 172, 3, 61, 28, 27, 163, 0, 86, 3]
abbrev dktX10_chain_0 : List UInt8 := dkwX10_chain_0 ++ dktX10_chain_1
theorem dksX10_chain_0 : cX10_chain.data.toList.drop 0 = dktX10_chain_0 := by decide +kernel
theorem dksX10_chain_1 : cX10_chain.data.toList.drop 24 = dktX10_chain_1 := dk_seg dksX10_chain_0 24 rfl rfl
theorem dksX10_chain_2 : cX10_chain.data.toList.drop 48 = dktX10_chain_2 := dk_seg dksX10_chain_1 24 rfl rfl
theorem dksX10_chain_3 : cX10_chain.data.toList.drop 71 = dktX10_chain_3 := dk_seg dksX10_chain_2 23 rfl rfl
theorem dksX10_chain_4 : cX10_chain.data.toList.drop 95 = dktX10_chain_4 := dk_seg dksX10_chain_3 24 rfl rfl
theorem dX10_chain_0 : decode cX10_chain 0 = .ok (.aload_n 0, 1) := dk_42 (dk_at dksX10_chain_0 0 rfl rfl)
theorem dX10_chain_1 : decode cX10_chain 1 = .ok (.iconst 0, 1) := dk_3 (dk_at dksX10_chain_0 1 rfl rfl)
theorem dX10_chain_2 : decode cX10_chain 2 = .ok (.putfield 3, 3) := dk_181 0 3 (dk_at dksX10_chain_0 2 rfl rfl)
theorem dX10_chain_5 : decode cX10_chain 5 = .ok (.aload_n 0, 1) := dk_42 (dk_at dksX10_chain_0 5 rfl rfl)
theorem dX10_chain_6 : decode cX10_chain 6 = .ok (.iload_n 1, 1) := dk_27 (dk_at dksX10_chain_0 6 rfl rfl)
theorem dX10_chain_7 : decode cX10_chain 7 = .ok (.iconst 1, 1) := dk_4 (dk_at dksX10_chain_0 7 rfl rfl)
theorem dX10_chain_8 : decode cX10_chain 8 = .ok (.invokevirtual 368, 3) := dk_182 1 112 (dk_at dksX10_chain_0 8 rfl rfl)
theorem dX10_chain_11 : decode cX10_chain 11 = .ok (.ifCond .ne 5, 3) := dk_154 0 5 (dk_at dksX10_chain_0 11 rfl rfl)
theorem dX10_chain_14 : decode cX10_chain 14 = .ok (.iconst 0, 1) := dk_3 (dk_at dksX10_chain_0 14 rfl rfl)
theorem dX10_chain_15 : decode cX10_chain 15 = .ok (.ireturn, 1) := dk_172 (dk_at dksX10_chain_0 15 rfl rfl)
theorem dX10_chain_16 : decode cX10_chain 16 = .ok (.iconst 0, 1) := dk_3 (dk_at dksX10_chain_0 16 rfl rfl)
theorem dX10_chain_17 : decode cX10_chain 17 = .ok (.istore_n 2, 1) := dk_61 (dk_at dksX10_chain_0 17 rfl rfl)
theorem dX10_chain_18 : decode cX10_chain 18 = .ok (.iload_n 2, 1) := dk_28 (dk_at dksX10_chain_0 18 rfl rfl)
theorem dX10_chain_19 : decode cX10_chain 19 = .ok (.iload_n 1, 1) := dk_27 (dk_at dksX10_chain_0 19 rfl rfl)
theorem dX10_chain_20 : decode cX10_chain 20 = .ok (.if_icmp .gt 86, 3) := dk_163 0 86 (dk_at dksX10_chain_0 20 rfl rfl)
theorem dX10_chain_23 : decode cX10_chain 23 = .ok (.iconst 0, 1) := dk_3 (dk_at dksX10_chain_0 23 rfl rfl)
theorem dX10_chain_24 : decode cX10_chain 24 = .ok (.istore_n 3, 1) := dk_62 (dk_at dksX10_chain_1 0 rfl rfl)
theorem dX10_chain_25 : decode cX10_chain 25 = .ok (.iconst 0, 1) := dk_3 (dk_at dksX10_chain_1 1 rfl rfl)
theorem dX10_chain_26 : decode cX10_chain 26 = .ok (.istore 4, 2) := dk_54 4 (dk_at dksX10_chain_1 2 rfl rfl)
theorem dX10_chain_28 : decode cX10_chain 28 = .ok (.iload 4, 2) := dk_21 4 (dk_at dksX10_chain_1 4 rfl rfl)
theorem dX10_chain_30 : decode cX10_chain 30 = .ok (.iload_n 2, 1) := dk_28 (dk_at dksX10_chain_1 6 rfl rfl)
theorem dX10_chain_31 : decode cX10_chain 31 = .ok (.if_icmp .ge 51, 3) := dk_162 0 51 (dk_at dksX10_chain_1 7 rfl rfl)
theorem dX10_chain_34 : decode cX10_chain 34 = .ok (.aload_n 0, 1) := dk_42 (dk_at dksX10_chain_1 10 rfl rfl)
theorem dX10_chain_35 : decode cX10_chain 35 = .ok (.getfield 44, 3) := dk_180 0 44 (dk_at dksX10_chain_1 11 rfl rfl)
theorem dX10_chain_38 : decode cX10_chain 38 = .ok (.iconst 5, 1) := dk_8 (dk_at dksX10_chain_1 14 rfl rfl)
theorem dX10_chain_39 : decode cX10_chain 39 = .ok (.iload_n 2, 1) := dk_28 (dk_at dksX10_chain_1 15 rfl rfl)
theorem dX10_chain_40 : decode cX10_chain 40 = .ok (.imul, 1) := dk_104 (dk_at dksX10_chain_1 16 rfl rfl)
theorem dX10_chain_41 : decode cX10_chain 41 = .ok (.iconst 4, 1) := dk_7 (dk_at dksX10_chain_1 17 rfl rfl)
theorem dX10_chain_42 : decode cX10_chain 42 = .ok (.iadd, 1) := dk_96 (dk_at dksX10_chain_1 18 rfl rfl)
theorem dX10_chain_43 : decode cX10_chain 43 = .ok (.iaload, 1) := dk_46 (dk_at dksX10_chain_1 19 rfl rfl)
theorem dX10_chain_44 : decode cX10_chain 44 = .ok (.iload 4, 2) := dk_21 4 (dk_at dksX10_chain_1 20 rfl rfl)
theorem dX10_chain_46 : decode cX10_chain 46 = .ok (.ishr, 1) := dk_122 (dk_at dksX10_chain_1 22 rfl rfl)
theorem dX10_chain_47 : decode cX10_chain 47 = .ok (.iconst 1, 1) := dk_4 (dk_at dksX10_chain_1 23 rfl rfl)
theorem dX10_chain_48 : decode cX10_chain 48 = .ok (.iand, 1) := dk_126 (dk_at dksX10_chain_2 0 rfl rfl)
theorem dX10_chain_49 : decode cX10_chain 49 = .ok (.iconst 1, 1) := dk_4 (dk_at dksX10_chain_2 1 rfl rfl)
theorem dX10_chain_50 : decode cX10_chain 50 = .ok (.if_icmp .ne 24, 3) := dk_160 0 24 (dk_at dksX10_chain_2 2 rfl rfl)
theorem dX10_chain_53 : decode cX10_chain 53 = .ok (.aload_n 0, 1) := dk_42 (dk_at dksX10_chain_2 5 rfl rfl)
theorem dX10_chain_54 : decode cX10_chain 54 = .ok (.getfield 123, 3) := dk_180 0 123 (dk_at dksX10_chain_2 6 rfl rfl)
theorem dX10_chain_57 : decode cX10_chain 57 = .ok (.iload 4, 2) := dk_21 4 (dk_at dksX10_chain_2 9 rfl rfl)
theorem dX10_chain_59 : decode cX10_chain 59 = .ok (.iaload, 1) := dk_46 (dk_at dksX10_chain_2 11 rfl rfl)
theorem dX10_chain_60 : decode cX10_chain 60 = .ok (.iload_n 3, 1) := dk_29 (dk_at dksX10_chain_2 12 rfl rfl)
theorem dX10_chain_61 : decode cX10_chain 61 = .ok (.if_icmp .le 13, 3) := dk_164 0 13 (dk_at dksX10_chain_2 13 rfl rfl)
theorem dX10_chain_64 : decode cX10_chain 64 = .ok (.aload_n 0, 1) := dk_42 (dk_at dksX10_chain_2 16 rfl rfl)
theorem dX10_chain_65 : decode cX10_chain 65 = .ok (.getfield 123, 3) := dk_180 0 123 (dk_at dksX10_chain_2 17 rfl rfl)
theorem dX10_chain_68 : decode cX10_chain 68 = .ok (.iload 4, 2) := dk_21 4 (dk_at dksX10_chain_2 20 rfl rfl)
theorem dX10_chain_70 : decode cX10_chain 70 = .ok (.iaload, 1) := dk_46 (dk_at dksX10_chain_2 22 rfl rfl)
theorem dX10_chain_71 : decode cX10_chain 71 = .ok (.goto 4, 3) := dk_167 0 4 (dk_at dksX10_chain_3 0 rfl rfl)
theorem dX10_chain_74 : decode cX10_chain 74 = .ok (.iload_n 3, 1) := dk_29 (dk_at dksX10_chain_3 3 rfl rfl)
theorem dX10_chain_75 : decode cX10_chain 75 = .ok (.istore_n 3, 1) := dk_62 (dk_at dksX10_chain_3 4 rfl rfl)
theorem dX10_chain_76 : decode cX10_chain 76 = .ok (.iinc 4 1, 3) := dk_132 4 1 (dk_at dksX10_chain_3 5 rfl rfl)
theorem dX10_chain_79 : decode cX10_chain 79 = .ok (.goto (-51), 3) := dk_167 255 205 (dk_at dksX10_chain_3 8 rfl rfl)
theorem dX10_chain_82 : decode cX10_chain 82 = .ok (.aload_n 0, 1) := dk_42 (dk_at dksX10_chain_3 11 rfl rfl)
theorem dX10_chain_83 : decode cX10_chain 83 = .ok (.getfield 123, 3) := dk_180 0 123 (dk_at dksX10_chain_3 12 rfl rfl)
theorem dX10_chain_86 : decode cX10_chain 86 = .ok (.iload_n 2, 1) := dk_28 (dk_at dksX10_chain_3 15 rfl rfl)
theorem dX10_chain_87 : decode cX10_chain 87 = .ok (.aload_n 0, 1) := dk_42 (dk_at dksX10_chain_3 16 rfl rfl)
theorem dX10_chain_88 : decode cX10_chain 88 = .ok (.getfield 44, 3) := dk_180 0 44 (dk_at dksX10_chain_3 17 rfl rfl)
theorem dX10_chain_91 : decode cX10_chain 91 = .ok (.iconst 5, 1) := dk_8 (dk_at dksX10_chain_3 20 rfl rfl)
theorem dX10_chain_92 : decode cX10_chain 92 = .ok (.iload_n 2, 1) := dk_28 (dk_at dksX10_chain_3 21 rfl rfl)
theorem dX10_chain_93 : decode cX10_chain 93 = .ok (.imul, 1) := dk_104 (dk_at dksX10_chain_3 22 rfl rfl)
theorem dX10_chain_94 : decode cX10_chain 94 = .ok (.iconst 0, 1) := dk_3 (dk_at dksX10_chain_3 23 rfl rfl)
theorem dX10_chain_95 : decode cX10_chain 95 = .ok (.iadd, 1) := dk_96 (dk_at dksX10_chain_4 0 rfl rfl)
theorem dX10_chain_96 : decode cX10_chain 96 = .ok (.iaload, 1) := dk_46 (dk_at dksX10_chain_4 1 rfl rfl)
theorem dX10_chain_97 : decode cX10_chain 97 = .ok (.iload_n 3, 1) := dk_29 (dk_at dksX10_chain_4 2 rfl rfl)
theorem dX10_chain_98 : decode cX10_chain 98 = .ok (.iadd, 1) := dk_96 (dk_at dksX10_chain_4 3 rfl rfl)
theorem dX10_chain_99 : decode cX10_chain 99 = .ok (.iastore, 1) := dk_79 (dk_at dksX10_chain_4 4 rfl rfl)
theorem dX10_chain_100 : decode cX10_chain 100 = .ok (.iinc 2 1, 3) := dk_132 2 1 (dk_at dksX10_chain_4 5 rfl rfl)
theorem dX10_chain_103 : decode cX10_chain 103 = .ok (.goto (-85), 3) := dk_167 255 171 (dk_at dksX10_chain_4 8 rfl rfl)
theorem dX10_chain_106 : decode cX10_chain 106 = .ok (.aload_n 0, 1) := dk_42 (dk_at dksX10_chain_4 11 rfl rfl)
theorem dX10_chain_107 : decode cX10_chain 107 = .ok (.getfield 123, 3) := dk_180 0 123 (dk_at dksX10_chain_4 12 rfl rfl)
theorem dX10_chain_110 : decode cX10_chain 110 = .ok (.iload_n 1, 1) := dk_27 (dk_at dksX10_chain_4 15 rfl rfl)
theorem dX10_chain_111 : decode cX10_chain 111 = .ok (.iaload, 1) := dk_46 (dk_at dksX10_chain_4 16 rfl rfl)
theorem dX10_chain_112 : decode cX10_chain 112 = .ok (.ireturn, 1) := dk_172 (dk_at dksX10_chain_4 17 rfl rfl)
abbrev cX10_soonest : ByteArray := prog_19_method_75_code
def yX10_soonest : MethodName := ⟨RX10, "soonest", "(I)I"⟩
def dkwX10_soonest_3 : List UInt8 := [180, 1, 159, 167, 0, 7, 42, 180, 1, 162, 172]
abbrev dktX10_soonest_3 : List UInt8 := dkwX10_soonest_3 ++ []
def dkwX10_soonest_2 : List UInt8 := [182, 1, 170, 42, 180, 1, 159, 19, 1, 169, 160, 0, 7, 2, 167, 0, 18, 27, 154, 0, 10, 42]
abbrev dktX10_soonest_2 : List UInt8 := dkwX10_soonest_2 ++ dktX10_soonest_3
def dkwX10_soonest_1 : List UInt8 := [180, 0, 217, 8, 163, 0, 7, 4, 167, 0, 4, 3, 5, 5, 182, 1, 19, 154, 0, 5, 3, 172, 42]
abbrev dktX10_soonest_1 : List UInt8 := dkwX10_soonest_1 ++ dktX10_soonest_2
def dkwX10_soonest_0 : List UInt8 := [42, 3, 181, 0, 3, 42, 27, 3, 4, 184, 1, 108, 4, 4, 182, 1, 19, 153, 0, 25, 42, 42]
abbrev dktX10_soonest_0 : List UInt8 := dkwX10_soonest_0 ++ dktX10_soonest_1
theorem dksX10_soonest_0 : cX10_soonest.data.toList.drop 0 = dktX10_soonest_0 := by decide +kernel
theorem dksX10_soonest_1 : cX10_soonest.data.toList.drop 22 = dktX10_soonest_1 := dk_seg dksX10_soonest_0 22 rfl rfl
theorem dksX10_soonest_2 : cX10_soonest.data.toList.drop 45 = dktX10_soonest_2 := dk_seg dksX10_soonest_1 23 rfl rfl
theorem dksX10_soonest_3 : cX10_soonest.data.toList.drop 67 = dktX10_soonest_3 := dk_seg dksX10_soonest_2 22 rfl rfl
theorem dX10_soonest_0 : decode cX10_soonest 0 = .ok (.aload_n 0, 1) := dk_42 (dk_at dksX10_soonest_0 0 rfl rfl)
theorem dX10_soonest_1 : decode cX10_soonest 1 = .ok (.iconst 0, 1) := dk_3 (dk_at dksX10_soonest_0 1 rfl rfl)
theorem dX10_soonest_2 : decode cX10_soonest 2 = .ok (.putfield 3, 3) := dk_181 0 3 (dk_at dksX10_soonest_0 2 rfl rfl)
theorem dX10_soonest_5 : decode cX10_soonest 5 = .ok (.aload_n 0, 1) := dk_42 (dk_at dksX10_soonest_0 5 rfl rfl)
theorem dX10_soonest_6 : decode cX10_soonest 6 = .ok (.iload_n 1, 1) := dk_27 (dk_at dksX10_soonest_0 6 rfl rfl)
theorem dX10_soonest_7 : decode cX10_soonest 7 = .ok (.iconst 0, 1) := dk_3 (dk_at dksX10_soonest_0 7 rfl rfl)
theorem dX10_soonest_8 : decode cX10_soonest 8 = .ok (.iconst 1, 1) := dk_4 (dk_at dksX10_soonest_0 8 rfl rfl)
theorem dX10_soonest_9 : decode cX10_soonest 9 = .ok (.invokestatic 364, 3) := dk_184 1 108 (dk_at dksX10_soonest_0 9 rfl rfl)
theorem dX10_soonest_12 : decode cX10_soonest 12 = .ok (.iconst 1, 1) := dk_4 (dk_at dksX10_soonest_0 12 rfl rfl)
theorem dX10_soonest_13 : decode cX10_soonest 13 = .ok (.iconst 1, 1) := dk_4 (dk_at dksX10_soonest_0 13 rfl rfl)
theorem dX10_soonest_14 : decode cX10_soonest 14 = .ok (.invokevirtual 275, 3) := dk_182 1 19 (dk_at dksX10_soonest_0 14 rfl rfl)
theorem dX10_soonest_17 : decode cX10_soonest 17 = .ok (.ifCond .eq 25, 3) := dk_153 0 25 (dk_at dksX10_soonest_0 17 rfl rfl)
theorem dX10_soonest_20 : decode cX10_soonest 20 = .ok (.aload_n 0, 1) := dk_42 (dk_at dksX10_soonest_0 20 rfl rfl)
theorem dX10_soonest_21 : decode cX10_soonest 21 = .ok (.aload_n 0, 1) := dk_42 (dk_at dksX10_soonest_0 21 rfl rfl)
theorem dX10_soonest_22 : decode cX10_soonest 22 = .ok (.getfield 217, 3) := dk_180 0 217 (dk_at dksX10_soonest_1 0 rfl rfl)
theorem dX10_soonest_25 : decode cX10_soonest 25 = .ok (.iconst 5, 1) := dk_8 (dk_at dksX10_soonest_1 3 rfl rfl)
theorem dX10_soonest_26 : decode cX10_soonest 26 = .ok (.if_icmp .gt 7, 3) := dk_163 0 7 (dk_at dksX10_soonest_1 4 rfl rfl)
theorem dX10_soonest_29 : decode cX10_soonest 29 = .ok (.iconst 1, 1) := dk_4 (dk_at dksX10_soonest_1 7 rfl rfl)
theorem dX10_soonest_30 : decode cX10_soonest 30 = .ok (.goto 4, 3) := dk_167 0 4 (dk_at dksX10_soonest_1 8 rfl rfl)
theorem dX10_soonest_33 : decode cX10_soonest 33 = .ok (.iconst 0, 1) := dk_3 (dk_at dksX10_soonest_1 11 rfl rfl)
theorem dX10_soonest_34 : decode cX10_soonest 34 = .ok (.iconst 2, 1) := dk_5 (dk_at dksX10_soonest_1 12 rfl rfl)
theorem dX10_soonest_35 : decode cX10_soonest 35 = .ok (.iconst 2, 1) := dk_5 (dk_at dksX10_soonest_1 13 rfl rfl)
theorem dX10_soonest_36 : decode cX10_soonest 36 = .ok (.invokevirtual 275, 3) := dk_182 1 19 (dk_at dksX10_soonest_1 14 rfl rfl)
theorem dX10_soonest_39 : decode cX10_soonest 39 = .ok (.ifCond .ne 5, 3) := dk_154 0 5 (dk_at dksX10_soonest_1 17 rfl rfl)
theorem dX10_soonest_42 : decode cX10_soonest 42 = .ok (.iconst 0, 1) := dk_3 (dk_at dksX10_soonest_1 20 rfl rfl)
theorem dX10_soonest_43 : decode cX10_soonest 43 = .ok (.ireturn, 1) := dk_172 (dk_at dksX10_soonest_1 21 rfl rfl)
theorem dX10_soonest_44 : decode cX10_soonest 44 = .ok (.aload_n 0, 1) := dk_42 (dk_at dksX10_soonest_1 22 rfl rfl)
theorem dX10_soonest_45 : decode cX10_soonest 45 = .ok (.invokevirtual 426, 3) := dk_182 1 170 (dk_at dksX10_soonest_2 0 rfl rfl)
theorem dX10_soonest_48 : decode cX10_soonest 48 = .ok (.aload_n 0, 1) := dk_42 (dk_at dksX10_soonest_2 3 rfl rfl)
theorem dX10_soonest_49 : decode cX10_soonest 49 = .ok (.getfield 415, 3) := dk_180 1 159 (dk_at dksX10_soonest_2 4 rfl rfl)
theorem dX10_soonest_52 : decode cX10_soonest 52 = .ok (.ldc_w 425, 3) := dk_19 1 169 (dk_at dksX10_soonest_2 7 rfl rfl)
theorem dX10_soonest_55 : decode cX10_soonest 55 = .ok (.if_icmp .ne 7, 3) := dk_160 0 7 (dk_at dksX10_soonest_2 10 rfl rfl)
theorem dX10_soonest_58 : decode cX10_soonest 58 = .ok (.iconst (-1), 1) := dk_2 (dk_at dksX10_soonest_2 13 rfl rfl)
theorem dX10_soonest_59 : decode cX10_soonest 59 = .ok (.goto 18, 3) := dk_167 0 18 (dk_at dksX10_soonest_2 14 rfl rfl)
theorem dX10_soonest_62 : decode cX10_soonest 62 = .ok (.iload_n 1, 1) := dk_27 (dk_at dksX10_soonest_2 17 rfl rfl)
theorem dX10_soonest_63 : decode cX10_soonest 63 = .ok (.ifCond .ne 10, 3) := dk_154 0 10 (dk_at dksX10_soonest_2 18 rfl rfl)
theorem dX10_soonest_66 : decode cX10_soonest 66 = .ok (.aload_n 0, 1) := dk_42 (dk_at dksX10_soonest_2 21 rfl rfl)
theorem dX10_soonest_67 : decode cX10_soonest 67 = .ok (.getfield 415, 3) := dk_180 1 159 (dk_at dksX10_soonest_3 0 rfl rfl)
theorem dX10_soonest_70 : decode cX10_soonest 70 = .ok (.goto 7, 3) := dk_167 0 7 (dk_at dksX10_soonest_3 3 rfl rfl)
theorem dX10_soonest_73 : decode cX10_soonest 73 = .ok (.aload_n 0, 1) := dk_42 (dk_at dksX10_soonest_3 6 rfl rfl)
theorem dX10_soonest_74 : decode cX10_soonest 74 = .ok (.getfield 418, 3) := dk_180 1 162 (dk_at dksX10_soonest_3 7 rfl rfl)
theorem dX10_soonest_77 : decode cX10_soonest 77 = .ok (.ireturn, 1) := dk_172 (dk_at dksX10_soonest_3 10 rfl rfl)
abbrev cX10_findSoonest : ByteArray := prog_19_method_74_code
def yX10_findSoonest : MethodName := ⟨RX10, "findSoonest", "()V"⟩
def dkwX10_findSoonest_1 : List UInt8 := [181, 1, 159, 42, 3, 181, 1, 162, 42, 3, 3, 3, 3, 182, 1, 165, 177]
abbrev dktX10_findSoonest_1 : List UInt8 := dkwX10_findSoonest_1 ++ []
def dkwX10_findSoonest_0 : List UInt8 := [3, 60, 27, 7, 162, 0, 16, 42, 180, 0, 108, 27, 3, 79, 132, 1, 1, 167, 255, 241, 42, 19, 1, 169]
abbrev dktX10_findSoonest_0 : List UInt8 := dkwX10_findSoonest_0 ++ dktX10_findSoonest_1
theorem dksX10_findSoonest_0 : cX10_findSoonest.data.toList.drop 0 = dktX10_findSoonest_0 := by decide +kernel
theorem dksX10_findSoonest_1 : cX10_findSoonest.data.toList.drop 24 = dktX10_findSoonest_1 := dk_seg dksX10_findSoonest_0 24 rfl rfl
theorem dX10_findSoonest_0 : decode cX10_findSoonest 0 = .ok (.iconst 0, 1) := dk_3 (dk_at dksX10_findSoonest_0 0 rfl rfl)
theorem dX10_findSoonest_1 : decode cX10_findSoonest 1 = .ok (.istore_n 1, 1) := dk_60 (dk_at dksX10_findSoonest_0 1 rfl rfl)
theorem dX10_findSoonest_2 : decode cX10_findSoonest 2 = .ok (.iload_n 1, 1) := dk_27 (dk_at dksX10_findSoonest_0 2 rfl rfl)
theorem dX10_findSoonest_3 : decode cX10_findSoonest 3 = .ok (.iconst 4, 1) := dk_7 (dk_at dksX10_findSoonest_0 3 rfl rfl)
theorem dX10_findSoonest_4 : decode cX10_findSoonest 4 = .ok (.if_icmp .ge 16, 3) := dk_162 0 16 (dk_at dksX10_findSoonest_0 4 rfl rfl)
theorem dX10_findSoonest_7 : decode cX10_findSoonest 7 = .ok (.aload_n 0, 1) := dk_42 (dk_at dksX10_findSoonest_0 7 rfl rfl)
theorem dX10_findSoonest_8 : decode cX10_findSoonest 8 = .ok (.getfield 108, 3) := dk_180 0 108 (dk_at dksX10_findSoonest_0 8 rfl rfl)
theorem dX10_findSoonest_11 : decode cX10_findSoonest 11 = .ok (.iload_n 1, 1) := dk_27 (dk_at dksX10_findSoonest_0 11 rfl rfl)
theorem dX10_findSoonest_12 : decode cX10_findSoonest 12 = .ok (.iconst 0, 1) := dk_3 (dk_at dksX10_findSoonest_0 12 rfl rfl)
theorem dX10_findSoonest_13 : decode cX10_findSoonest 13 = .ok (.iastore, 1) := dk_79 (dk_at dksX10_findSoonest_0 13 rfl rfl)
theorem dX10_findSoonest_14 : decode cX10_findSoonest 14 = .ok (.iinc 1 1, 3) := dk_132 1 1 (dk_at dksX10_findSoonest_0 14 rfl rfl)
theorem dX10_findSoonest_17 : decode cX10_findSoonest 17 = .ok (.goto (-15), 3) := dk_167 255 241 (dk_at dksX10_findSoonest_0 17 rfl rfl)
theorem dX10_findSoonest_20 : decode cX10_findSoonest 20 = .ok (.aload_n 0, 1) := dk_42 (dk_at dksX10_findSoonest_0 20 rfl rfl)
theorem dX10_findSoonest_21 : decode cX10_findSoonest 21 = .ok (.ldc_w 425, 3) := dk_19 1 169 (dk_at dksX10_findSoonest_0 21 rfl rfl)
theorem dX10_findSoonest_24 : decode cX10_findSoonest 24 = .ok (.putfield 415, 3) := dk_181 1 159 (dk_at dksX10_findSoonest_1 0 rfl rfl)
theorem dX10_findSoonest_27 : decode cX10_findSoonest 27 = .ok (.aload_n 0, 1) := dk_42 (dk_at dksX10_findSoonest_1 3 rfl rfl)
theorem dX10_findSoonest_28 : decode cX10_findSoonest 28 = .ok (.iconst 0, 1) := dk_3 (dk_at dksX10_findSoonest_1 4 rfl rfl)
theorem dX10_findSoonest_29 : decode cX10_findSoonest 29 = .ok (.putfield 418, 3) := dk_181 1 162 (dk_at dksX10_findSoonest_1 5 rfl rfl)
theorem dX10_findSoonest_32 : decode cX10_findSoonest 32 = .ok (.aload_n 0, 1) := dk_42 (dk_at dksX10_findSoonest_1 8 rfl rfl)
theorem dX10_findSoonest_33 : decode cX10_findSoonest 33 = .ok (.iconst 0, 1) := dk_3 (dk_at dksX10_findSoonest_1 9 rfl rfl)
theorem dX10_findSoonest_34 : decode cX10_findSoonest 34 = .ok (.iconst 0, 1) := dk_3 (dk_at dksX10_findSoonest_1 10 rfl rfl)
theorem dX10_findSoonest_35 : decode cX10_findSoonest 35 = .ok (.iconst 0, 1) := dk_3 (dk_at dksX10_findSoonest_1 11 rfl rfl)
theorem dX10_findSoonest_36 : decode cX10_findSoonest 36 = .ok (.iconst 0, 1) := dk_3 (dk_at dksX10_findSoonest_1 12 rfl rfl)
theorem dX10_findSoonest_37 : decode cX10_findSoonest 37 = .ok (.invokevirtual 421, 3) := dk_182 1 165 (dk_at dksX10_findSoonest_1 13 rfl rfl)
theorem dX10_findSoonest_40 : decode cX10_findSoonest 40 = .ok (.return_, 1) := dk_177 (dk_at dksX10_findSoonest_1 16 rfl rfl)
abbrev cX10_plansOn : ByteArray := prog_19_method_73_code
def yX10_plansOn : MethodName := ⟨RX10, "plansOn", "(IIII)V"⟩
def dkwX10_plansOn_15 : List UInt8 := [46, 79, 132, 10, 1, 167, 255, 229, 132, 6, 1, 167, 255, 35, 132, 5, 1, 167, 254, 242, 177]
abbrev dktX10_plansOn_15 : List UInt8 := dkwX10_plansOn_15 ++ []
def dkwX10_plansOn_14 : List UInt8 := [54, 10, 21, 10, 7, 162, 0, 27, 42, 180, 0, 108, 21, 10, 42, 180, 0, 126, 7, 27, 104, 21, 10, 96]
abbrev dktX10_plansOn_14 : List UInt8 := dkwX10_plansOn_14 ++ dktX10_plansOn_15
def dkwX10_plansOn_13 : List UInt8 := [120, 128, 21, 8, 29, 164, 0, 8, 21, 8, 167, 0, 4, 29, 21, 4, 21, 9, 96, 182, 1, 165, 3]
abbrev dktX10_plansOn_13 : List UInt8 := dkwX10_plansOn_13 ++ dktX10_plansOn_14
def dkwX10_plansOn_12 : List UInt8 := [104, 21, 5, 79, 42, 180, 0, 132, 5, 27, 104, 4, 96, 21, 6, 79, 42, 27, 4, 96, 28, 4, 21, 5]
abbrev dktX10_plansOn_12 : List UInt8 := dkwX10_plansOn_12 ++ dktX10_plansOn_13
def dkwX10_plansOn_11 : List UInt8 := [21, 8, 79, 132, 10, 1, 167, 255, 224, 42, 180, 0, 111, 21, 5, 21, 8, 79, 42, 180, 0, 132, 5, 27]
abbrev dktX10_plansOn_11 : List UInt8 := dkwX10_plansOn_11 ++ dktX10_plansOn_12
def dkwX10_plansOn_10 : List UInt8 := [180, 0, 214, 162, 0, 29, 21, 6, 21, 10, 122, 4, 126, 4, 160, 0, 12, 42, 180, 0, 108, 21, 10]
abbrev dktX10_plansOn_10 : List UInt8 := dkwX10_plansOn_10 ++ dktX10_plansOn_11
def dkwX10_plansOn_9 : List UInt8 := [182, 1, 122, 42, 21, 7, 21, 8, 182, 1, 146, 104, 167, 0, 4, 3, 54, 9, 3, 54, 10, 21, 10, 42]
abbrev dktX10_plansOn_9 : List UInt8 := dkwX10_plansOn_9 ++ dktX10_plansOn_10
def dkwX10_plansOn_8 : List UInt8 := [182, 1, 140, 96, 54, 8, 42, 180, 0, 44, 8, 21, 5, 104, 4, 96, 46, 4, 160, 0, 21, 42, 21, 6]
abbrev dktX10_plansOn_8 : List UInt8 := dkwX10_plansOn_8 ++ dktX10_plansOn_9
def dkwX10_plansOn_7 : List UInt8 := [167, 0, 196, 42, 21, 5, 21, 6, 182, 1, 137, 54, 7, 21, 7, 42, 21, 5, 21, 6, 21, 7]
abbrev dktX10_plansOn_7 : List UInt8 := dkwX10_plansOn_7 ++ dktX10_plansOn_8
def dkwX10_plansOn_6 : List UInt8 := [21, 6, 4, 42, 180, 0, 214, 120, 162, 0, 216, 42, 21, 5, 21, 6, 182, 1, 134, 154, 0, 6]
abbrev dktX10_plansOn_6 : List UInt8 := dkwX10_plansOn_6 ++ dktX10_plansOn_7
def dkwX10_plansOn_5 : List UInt8 := [180, 0, 44, 8, 21, 5, 104, 7, 96, 46, 28, 2, 130, 126, 153, 0, 6, 167, 0, 230, 4, 54, 6]
abbrev dktX10_plansOn_5 : List UInt8 := dkwX10_plansOn_5 ++ dktX10_plansOn_6
def dkwX10_plansOn_4 : List UInt8 := [54, 5, 21, 5, 42, 180, 0, 217, 162, 1, 11, 28, 21, 5, 122, 4, 126, 4, 159, 0, 251, 42]
abbrev dktX10_plansOn_4 : List UInt8 := dkwX10_plansOn_4 ++ dktX10_plansOn_5
def dkwX10_plansOn_3 : List UInt8 := [180, 0, 126, 7, 27, 104, 21, 5, 96, 42, 180, 0, 108, 21, 5, 46, 79, 132, 5, 1, 167, 255, 229, 3]
abbrev dktX10_plansOn_3 : List UInt8 := dkwX10_plansOn_3 ++ dktX10_plansOn_4
def dkwX10_plansOn_2 : List UInt8 := [42, 180, 0, 132, 42, 180, 0, 129, 16, 10, 182, 0, 229, 177, 3, 54, 5, 21, 5, 7, 162, 0, 27, 42]
abbrev dktX10_plansOn_2 : List UInt8 := dkwX10_plansOn_2 ++ dktX10_plansOn_3
def dkwX10_plansOn_1 : List UInt8 := [161, 0, 4, 177, 27, 42, 180, 0, 217, 160, 0, 29, 42, 29, 181, 1, 159, 42, 21, 4, 181, 1, 162, 42]
abbrev dktX10_plansOn_1 : List UInt8 := dkwX10_plansOn_1 ++ dktX10_plansOn_2
def dkwX10_plansOn_0 : List UInt8 := [29, 42, 180, 1, 159, 163, 0, 20, 29, 42, 180, 1, 159, 160, 0, 13, 21, 4, 42, 180, 1, 162]
abbrev dktX10_plansOn_0 : List UInt8 := dkwX10_plansOn_0 ++ dktX10_plansOn_1
theorem dksX10_plansOn_0 : cX10_plansOn.data.toList.drop 0 = dktX10_plansOn_0 := by decide +kernel
theorem dksX10_plansOn_1 : cX10_plansOn.data.toList.drop 22 = dktX10_plansOn_1 := dk_seg dksX10_plansOn_0 22 rfl rfl
theorem dksX10_plansOn_2 : cX10_plansOn.data.toList.drop 46 = dktX10_plansOn_2 := dk_seg dksX10_plansOn_1 24 rfl rfl
theorem dksX10_plansOn_3 : cX10_plansOn.data.toList.drop 70 = dktX10_plansOn_3 := dk_seg dksX10_plansOn_2 24 rfl rfl
theorem dksX10_plansOn_4 : cX10_plansOn.data.toList.drop 94 = dktX10_plansOn_4 := dk_seg dksX10_plansOn_3 24 rfl rfl
theorem dksX10_plansOn_5 : cX10_plansOn.data.toList.drop 116 = dktX10_plansOn_5 := dk_seg dksX10_plansOn_4 22 rfl rfl
theorem dksX10_plansOn_6 : cX10_plansOn.data.toList.drop 139 = dktX10_plansOn_6 := dk_seg dksX10_plansOn_5 23 rfl rfl
theorem dksX10_plansOn_7 : cX10_plansOn.data.toList.drop 161 = dktX10_plansOn_7 := dk_seg dksX10_plansOn_6 22 rfl rfl
theorem dksX10_plansOn_8 : cX10_plansOn.data.toList.drop 183 = dktX10_plansOn_8 := dk_seg dksX10_plansOn_7 22 rfl rfl
theorem dksX10_plansOn_9 : cX10_plansOn.data.toList.drop 207 = dktX10_plansOn_9 := dk_seg dksX10_plansOn_8 24 rfl rfl
theorem dksX10_plansOn_10 : cX10_plansOn.data.toList.drop 231 = dktX10_plansOn_10 := dk_seg dksX10_plansOn_9 24 rfl rfl
theorem dksX10_plansOn_11 : cX10_plansOn.data.toList.drop 254 = dktX10_plansOn_11 := dk_seg dksX10_plansOn_10 23 rfl rfl
theorem dksX10_plansOn_12 : cX10_plansOn.data.toList.drop 278 = dktX10_plansOn_12 := dk_seg dksX10_plansOn_11 24 rfl rfl
theorem dksX10_plansOn_13 : cX10_plansOn.data.toList.drop 302 = dktX10_plansOn_13 := dk_seg dksX10_plansOn_12 24 rfl rfl
theorem dksX10_plansOn_14 : cX10_plansOn.data.toList.drop 325 = dktX10_plansOn_14 := dk_seg dksX10_plansOn_13 23 rfl rfl
theorem dksX10_plansOn_15 : cX10_plansOn.data.toList.drop 349 = dktX10_plansOn_15 := dk_seg dksX10_plansOn_14 24 rfl rfl
theorem dX10_plansOn_0 : decode cX10_plansOn 0 = .ok (.iload_n 3, 1) := dk_29 (dk_at dksX10_plansOn_0 0 rfl rfl)
theorem dX10_plansOn_1 : decode cX10_plansOn 1 = .ok (.aload_n 0, 1) := dk_42 (dk_at dksX10_plansOn_0 1 rfl rfl)
theorem dX10_plansOn_2 : decode cX10_plansOn 2 = .ok (.getfield 415, 3) := dk_180 1 159 (dk_at dksX10_plansOn_0 2 rfl rfl)
theorem dX10_plansOn_5 : decode cX10_plansOn 5 = .ok (.if_icmp .gt 20, 3) := dk_163 0 20 (dk_at dksX10_plansOn_0 5 rfl rfl)
theorem dX10_plansOn_8 : decode cX10_plansOn 8 = .ok (.iload_n 3, 1) := dk_29 (dk_at dksX10_plansOn_0 8 rfl rfl)
theorem dX10_plansOn_9 : decode cX10_plansOn 9 = .ok (.aload_n 0, 1) := dk_42 (dk_at dksX10_plansOn_0 9 rfl rfl)
theorem dX10_plansOn_10 : decode cX10_plansOn 10 = .ok (.getfield 415, 3) := dk_180 1 159 (dk_at dksX10_plansOn_0 10 rfl rfl)
theorem dX10_plansOn_13 : decode cX10_plansOn 13 = .ok (.if_icmp .ne 13, 3) := dk_160 0 13 (dk_at dksX10_plansOn_0 13 rfl rfl)
theorem dX10_plansOn_16 : decode cX10_plansOn 16 = .ok (.iload 4, 2) := dk_21 4 (dk_at dksX10_plansOn_0 16 rfl rfl)
theorem dX10_plansOn_18 : decode cX10_plansOn 18 = .ok (.aload_n 0, 1) := dk_42 (dk_at dksX10_plansOn_0 18 rfl rfl)
theorem dX10_plansOn_19 : decode cX10_plansOn 19 = .ok (.getfield 418, 3) := dk_180 1 162 (dk_at dksX10_plansOn_0 19 rfl rfl)
theorem dX10_plansOn_22 : decode cX10_plansOn 22 = .ok (.if_icmp .lt 4, 3) := dk_161 0 4 (dk_at dksX10_plansOn_1 0 rfl rfl)
theorem dX10_plansOn_25 : decode cX10_plansOn 25 = .ok (.return_, 1) := dk_177 (dk_at dksX10_plansOn_1 3 rfl rfl)
theorem dX10_plansOn_26 : decode cX10_plansOn 26 = .ok (.iload_n 1, 1) := dk_27 (dk_at dksX10_plansOn_1 4 rfl rfl)
theorem dX10_plansOn_27 : decode cX10_plansOn 27 = .ok (.aload_n 0, 1) := dk_42 (dk_at dksX10_plansOn_1 5 rfl rfl)
theorem dX10_plansOn_28 : decode cX10_plansOn 28 = .ok (.getfield 217, 3) := dk_180 0 217 (dk_at dksX10_plansOn_1 6 rfl rfl)
theorem dX10_plansOn_31 : decode cX10_plansOn 31 = .ok (.if_icmp .ne 29, 3) := dk_160 0 29 (dk_at dksX10_plansOn_1 9 rfl rfl)
theorem dX10_plansOn_34 : decode cX10_plansOn 34 = .ok (.aload_n 0, 1) := dk_42 (dk_at dksX10_plansOn_1 12 rfl rfl)
theorem dX10_plansOn_35 : decode cX10_plansOn 35 = .ok (.iload_n 3, 1) := dk_29 (dk_at dksX10_plansOn_1 13 rfl rfl)
theorem dX10_plansOn_36 : decode cX10_plansOn 36 = .ok (.putfield 415, 3) := dk_181 1 159 (dk_at dksX10_plansOn_1 14 rfl rfl)
theorem dX10_plansOn_39 : decode cX10_plansOn 39 = .ok (.aload_n 0, 1) := dk_42 (dk_at dksX10_plansOn_1 17 rfl rfl)
theorem dX10_plansOn_40 : decode cX10_plansOn 40 = .ok (.iload 4, 2) := dk_21 4 (dk_at dksX10_plansOn_1 18 rfl rfl)
theorem dX10_plansOn_42 : decode cX10_plansOn 42 = .ok (.putfield 418, 3) := dk_181 1 162 (dk_at dksX10_plansOn_1 20 rfl rfl)
theorem dX10_plansOn_45 : decode cX10_plansOn 45 = .ok (.aload_n 0, 1) := dk_42 (dk_at dksX10_plansOn_1 23 rfl rfl)
theorem dX10_plansOn_46 : decode cX10_plansOn 46 = .ok (.aload_n 0, 1) := dk_42 (dk_at dksX10_plansOn_2 0 rfl rfl)
theorem dX10_plansOn_47 : decode cX10_plansOn 47 = .ok (.getfield 132, 3) := dk_180 0 132 (dk_at dksX10_plansOn_2 1 rfl rfl)
theorem dX10_plansOn_50 : decode cX10_plansOn 50 = .ok (.aload_n 0, 1) := dk_42 (dk_at dksX10_plansOn_2 4 rfl rfl)
theorem dX10_plansOn_51 : decode cX10_plansOn 51 = .ok (.getfield 129, 3) := dk_180 0 129 (dk_at dksX10_plansOn_2 5 rfl rfl)
theorem dX10_plansOn_54 : decode cX10_plansOn 54 = .ok (.bipush 10, 2) := dk_16 10 (dk_at dksX10_plansOn_2 8 rfl rfl)
theorem dX10_plansOn_56 : decode cX10_plansOn 56 = .ok (.invokevirtual 229, 3) := dk_182 0 229 (dk_at dksX10_plansOn_2 10 rfl rfl)
theorem dX10_plansOn_59 : decode cX10_plansOn 59 = .ok (.return_, 1) := dk_177 (dk_at dksX10_plansOn_2 13 rfl rfl)
theorem dX10_plansOn_60 : decode cX10_plansOn 60 = .ok (.iconst 0, 1) := dk_3 (dk_at dksX10_plansOn_2 14 rfl rfl)
theorem dX10_plansOn_61 : decode cX10_plansOn 61 = .ok (.istore 5, 2) := dk_54 5 (dk_at dksX10_plansOn_2 15 rfl rfl)
theorem dX10_plansOn_63 : decode cX10_plansOn 63 = .ok (.iload 5, 2) := dk_21 5 (dk_at dksX10_plansOn_2 17 rfl rfl)
theorem dX10_plansOn_65 : decode cX10_plansOn 65 = .ok (.iconst 4, 1) := dk_7 (dk_at dksX10_plansOn_2 19 rfl rfl)
theorem dX10_plansOn_66 : decode cX10_plansOn 66 = .ok (.if_icmp .ge 27, 3) := dk_162 0 27 (dk_at dksX10_plansOn_2 20 rfl rfl)
theorem dX10_plansOn_69 : decode cX10_plansOn 69 = .ok (.aload_n 0, 1) := dk_42 (dk_at dksX10_plansOn_2 23 rfl rfl)
theorem dX10_plansOn_70 : decode cX10_plansOn 70 = .ok (.getfield 126, 3) := dk_180 0 126 (dk_at dksX10_plansOn_3 0 rfl rfl)
theorem dX10_plansOn_73 : decode cX10_plansOn 73 = .ok (.iconst 4, 1) := dk_7 (dk_at dksX10_plansOn_3 3 rfl rfl)
theorem dX10_plansOn_74 : decode cX10_plansOn 74 = .ok (.iload_n 1, 1) := dk_27 (dk_at dksX10_plansOn_3 4 rfl rfl)
theorem dX10_plansOn_75 : decode cX10_plansOn 75 = .ok (.imul, 1) := dk_104 (dk_at dksX10_plansOn_3 5 rfl rfl)
theorem dX10_plansOn_76 : decode cX10_plansOn 76 = .ok (.iload 5, 2) := dk_21 5 (dk_at dksX10_plansOn_3 6 rfl rfl)
theorem dX10_plansOn_78 : decode cX10_plansOn 78 = .ok (.iadd, 1) := dk_96 (dk_at dksX10_plansOn_3 8 rfl rfl)
theorem dX10_plansOn_79 : decode cX10_plansOn 79 = .ok (.aload_n 0, 1) := dk_42 (dk_at dksX10_plansOn_3 9 rfl rfl)
theorem dX10_plansOn_80 : decode cX10_plansOn 80 = .ok (.getfield 108, 3) := dk_180 0 108 (dk_at dksX10_plansOn_3 10 rfl rfl)
theorem dX10_plansOn_83 : decode cX10_plansOn 83 = .ok (.iload 5, 2) := dk_21 5 (dk_at dksX10_plansOn_3 13 rfl rfl)
theorem dX10_plansOn_85 : decode cX10_plansOn 85 = .ok (.iaload, 1) := dk_46 (dk_at dksX10_plansOn_3 15 rfl rfl)
theorem dX10_plansOn_86 : decode cX10_plansOn 86 = .ok (.iastore, 1) := dk_79 (dk_at dksX10_plansOn_3 16 rfl rfl)
theorem dX10_plansOn_87 : decode cX10_plansOn 87 = .ok (.iinc 5 1, 3) := dk_132 5 1 (dk_at dksX10_plansOn_3 17 rfl rfl)
theorem dX10_plansOn_90 : decode cX10_plansOn 90 = .ok (.goto (-27), 3) := dk_167 255 229 (dk_at dksX10_plansOn_3 20 rfl rfl)
theorem dX10_plansOn_93 : decode cX10_plansOn 93 = .ok (.iconst 0, 1) := dk_3 (dk_at dksX10_plansOn_3 23 rfl rfl)
theorem dX10_plansOn_94 : decode cX10_plansOn 94 = .ok (.istore 5, 2) := dk_54 5 (dk_at dksX10_plansOn_4 0 rfl rfl)
theorem dX10_plansOn_96 : decode cX10_plansOn 96 = .ok (.iload 5, 2) := dk_21 5 (dk_at dksX10_plansOn_4 2 rfl rfl)
theorem dX10_plansOn_98 : decode cX10_plansOn 98 = .ok (.aload_n 0, 1) := dk_42 (dk_at dksX10_plansOn_4 4 rfl rfl)
theorem dX10_plansOn_99 : decode cX10_plansOn 99 = .ok (.getfield 217, 3) := dk_180 0 217 (dk_at dksX10_plansOn_4 5 rfl rfl)
theorem dX10_plansOn_102 : decode cX10_plansOn 102 = .ok (.if_icmp .ge 267, 3) := dk_162 1 11 (dk_at dksX10_plansOn_4 8 rfl rfl)
theorem dX10_plansOn_105 : decode cX10_plansOn 105 = .ok (.iload_n 2, 1) := dk_28 (dk_at dksX10_plansOn_4 11 rfl rfl)
theorem dX10_plansOn_106 : decode cX10_plansOn 106 = .ok (.iload 5, 2) := dk_21 5 (dk_at dksX10_plansOn_4 12 rfl rfl)
theorem dX10_plansOn_108 : decode cX10_plansOn 108 = .ok (.ishr, 1) := dk_122 (dk_at dksX10_plansOn_4 14 rfl rfl)
theorem dX10_plansOn_109 : decode cX10_plansOn 109 = .ok (.iconst 1, 1) := dk_4 (dk_at dksX10_plansOn_4 15 rfl rfl)
theorem dX10_plansOn_110 : decode cX10_plansOn 110 = .ok (.iand, 1) := dk_126 (dk_at dksX10_plansOn_4 16 rfl rfl)
theorem dX10_plansOn_111 : decode cX10_plansOn 111 = .ok (.iconst 1, 1) := dk_4 (dk_at dksX10_plansOn_4 17 rfl rfl)
theorem dX10_plansOn_112 : decode cX10_plansOn 112 = .ok (.if_icmp .eq 251, 3) := dk_159 0 251 (dk_at dksX10_plansOn_4 18 rfl rfl)
theorem dX10_plansOn_115 : decode cX10_plansOn 115 = .ok (.aload_n 0, 1) := dk_42 (dk_at dksX10_plansOn_4 21 rfl rfl)
theorem dX10_plansOn_116 : decode cX10_plansOn 116 = .ok (.getfield 44, 3) := dk_180 0 44 (dk_at dksX10_plansOn_5 0 rfl rfl)
theorem dX10_plansOn_119 : decode cX10_plansOn 119 = .ok (.iconst 5, 1) := dk_8 (dk_at dksX10_plansOn_5 3 rfl rfl)
theorem dX10_plansOn_120 : decode cX10_plansOn 120 = .ok (.iload 5, 2) := dk_21 5 (dk_at dksX10_plansOn_5 4 rfl rfl)
theorem dX10_plansOn_122 : decode cX10_plansOn 122 = .ok (.imul, 1) := dk_104 (dk_at dksX10_plansOn_5 6 rfl rfl)
theorem dX10_plansOn_123 : decode cX10_plansOn 123 = .ok (.iconst 4, 1) := dk_7 (dk_at dksX10_plansOn_5 7 rfl rfl)
theorem dX10_plansOn_124 : decode cX10_plansOn 124 = .ok (.iadd, 1) := dk_96 (dk_at dksX10_plansOn_5 8 rfl rfl)
theorem dX10_plansOn_125 : decode cX10_plansOn 125 = .ok (.iaload, 1) := dk_46 (dk_at dksX10_plansOn_5 9 rfl rfl)
theorem dX10_plansOn_126 : decode cX10_plansOn 126 = .ok (.iload_n 2, 1) := dk_28 (dk_at dksX10_plansOn_5 10 rfl rfl)
theorem dX10_plansOn_127 : decode cX10_plansOn 127 = .ok (.iconst (-1), 1) := dk_2 (dk_at dksX10_plansOn_5 11 rfl rfl)
theorem dX10_plansOn_128 : decode cX10_plansOn 128 = .ok (.ixor, 1) := dk_130 (dk_at dksX10_plansOn_5 12 rfl rfl)
theorem dX10_plansOn_129 : decode cX10_plansOn 129 = .ok (.iand, 1) := dk_126 (dk_at dksX10_plansOn_5 13 rfl rfl)
theorem dX10_plansOn_130 : decode cX10_plansOn 130 = .ok (.ifCond .eq 6, 3) := dk_153 0 6 (dk_at dksX10_plansOn_5 14 rfl rfl)
theorem dX10_plansOn_133 : decode cX10_plansOn 133 = .ok (.goto 230, 3) := dk_167 0 230 (dk_at dksX10_plansOn_5 17 rfl rfl)
theorem dX10_plansOn_136 : decode cX10_plansOn 136 = .ok (.iconst 1, 1) := dk_4 (dk_at dksX10_plansOn_5 20 rfl rfl)
theorem dX10_plansOn_137 : decode cX10_plansOn 137 = .ok (.istore 6, 2) := dk_54 6 (dk_at dksX10_plansOn_5 21 rfl rfl)
theorem dX10_plansOn_139 : decode cX10_plansOn 139 = .ok (.iload 6, 2) := dk_21 6 (dk_at dksX10_plansOn_6 0 rfl rfl)
theorem dX10_plansOn_141 : decode cX10_plansOn 141 = .ok (.iconst 1, 1) := dk_4 (dk_at dksX10_plansOn_6 2 rfl rfl)
theorem dX10_plansOn_142 : decode cX10_plansOn 142 = .ok (.aload_n 0, 1) := dk_42 (dk_at dksX10_plansOn_6 3 rfl rfl)
theorem dX10_plansOn_143 : decode cX10_plansOn 143 = .ok (.getfield 214, 3) := dk_180 0 214 (dk_at dksX10_plansOn_6 4 rfl rfl)
theorem dX10_plansOn_146 : decode cX10_plansOn 146 = .ok (.ishl, 1) := dk_120 (dk_at dksX10_plansOn_6 7 rfl rfl)
theorem dX10_plansOn_147 : decode cX10_plansOn 147 = .ok (.if_icmp .ge 216, 3) := dk_162 0 216 (dk_at dksX10_plansOn_6 8 rfl rfl)
theorem dX10_plansOn_150 : decode cX10_plansOn 150 = .ok (.aload_n 0, 1) := dk_42 (dk_at dksX10_plansOn_6 11 rfl rfl)
theorem dX10_plansOn_151 : decode cX10_plansOn 151 = .ok (.iload 5, 2) := dk_21 5 (dk_at dksX10_plansOn_6 12 rfl rfl)
theorem dX10_plansOn_153 : decode cX10_plansOn 153 = .ok (.iload 6, 2) := dk_21 6 (dk_at dksX10_plansOn_6 14 rfl rfl)
theorem dX10_plansOn_155 : decode cX10_plansOn 155 = .ok (.invokevirtual 390, 3) := dk_182 1 134 (dk_at dksX10_plansOn_6 16 rfl rfl)
theorem dX10_plansOn_158 : decode cX10_plansOn 158 = .ok (.ifCond .ne 6, 3) := dk_154 0 6 (dk_at dksX10_plansOn_6 19 rfl rfl)
theorem dX10_plansOn_161 : decode cX10_plansOn 161 = .ok (.goto 196, 3) := dk_167 0 196 (dk_at dksX10_plansOn_7 0 rfl rfl)
theorem dX10_plansOn_164 : decode cX10_plansOn 164 = .ok (.aload_n 0, 1) := dk_42 (dk_at dksX10_plansOn_7 3 rfl rfl)
theorem dX10_plansOn_165 : decode cX10_plansOn 165 = .ok (.iload 5, 2) := dk_21 5 (dk_at dksX10_plansOn_7 4 rfl rfl)
theorem dX10_plansOn_167 : decode cX10_plansOn 167 = .ok (.iload 6, 2) := dk_21 6 (dk_at dksX10_plansOn_7 6 rfl rfl)
theorem dX10_plansOn_169 : decode cX10_plansOn 169 = .ok (.invokevirtual 393, 3) := dk_182 1 137 (dk_at dksX10_plansOn_7 8 rfl rfl)
theorem dX10_plansOn_172 : decode cX10_plansOn 172 = .ok (.istore 7, 2) := dk_54 7 (dk_at dksX10_plansOn_7 11 rfl rfl)
theorem dX10_plansOn_174 : decode cX10_plansOn 174 = .ok (.iload 7, 2) := dk_21 7 (dk_at dksX10_plansOn_7 13 rfl rfl)
theorem dX10_plansOn_176 : decode cX10_plansOn 176 = .ok (.aload_n 0, 1) := dk_42 (dk_at dksX10_plansOn_7 15 rfl rfl)
theorem dX10_plansOn_177 : decode cX10_plansOn 177 = .ok (.iload 5, 2) := dk_21 5 (dk_at dksX10_plansOn_7 16 rfl rfl)
theorem dX10_plansOn_179 : decode cX10_plansOn 179 = .ok (.iload 6, 2) := dk_21 6 (dk_at dksX10_plansOn_7 18 rfl rfl)
theorem dX10_plansOn_181 : decode cX10_plansOn 181 = .ok (.iload 7, 2) := dk_21 7 (dk_at dksX10_plansOn_7 20 rfl rfl)
theorem dX10_plansOn_183 : decode cX10_plansOn 183 = .ok (.invokevirtual 396, 3) := dk_182 1 140 (dk_at dksX10_plansOn_8 0 rfl rfl)
theorem dX10_plansOn_186 : decode cX10_plansOn 186 = .ok (.iadd, 1) := dk_96 (dk_at dksX10_plansOn_8 3 rfl rfl)
theorem dX10_plansOn_187 : decode cX10_plansOn 187 = .ok (.istore 8, 2) := dk_54 8 (dk_at dksX10_plansOn_8 4 rfl rfl)
theorem dX10_plansOn_189 : decode cX10_plansOn 189 = .ok (.aload_n 0, 1) := dk_42 (dk_at dksX10_plansOn_8 6 rfl rfl)
theorem dX10_plansOn_190 : decode cX10_plansOn 190 = .ok (.getfield 44, 3) := dk_180 0 44 (dk_at dksX10_plansOn_8 7 rfl rfl)
theorem dX10_plansOn_193 : decode cX10_plansOn 193 = .ok (.iconst 5, 1) := dk_8 (dk_at dksX10_plansOn_8 10 rfl rfl)
theorem dX10_plansOn_194 : decode cX10_plansOn 194 = .ok (.iload 5, 2) := dk_21 5 (dk_at dksX10_plansOn_8 11 rfl rfl)
theorem dX10_plansOn_196 : decode cX10_plansOn 196 = .ok (.imul, 1) := dk_104 (dk_at dksX10_plansOn_8 13 rfl rfl)
theorem dX10_plansOn_197 : decode cX10_plansOn 197 = .ok (.iconst 1, 1) := dk_4 (dk_at dksX10_plansOn_8 14 rfl rfl)
theorem dX10_plansOn_198 : decode cX10_plansOn 198 = .ok (.iadd, 1) := dk_96 (dk_at dksX10_plansOn_8 15 rfl rfl)
theorem dX10_plansOn_199 : decode cX10_plansOn 199 = .ok (.iaload, 1) := dk_46 (dk_at dksX10_plansOn_8 16 rfl rfl)
theorem dX10_plansOn_200 : decode cX10_plansOn 200 = .ok (.iconst 1, 1) := dk_4 (dk_at dksX10_plansOn_8 17 rfl rfl)
theorem dX10_plansOn_201 : decode cX10_plansOn 201 = .ok (.if_icmp .ne 21, 3) := dk_160 0 21 (dk_at dksX10_plansOn_8 18 rfl rfl)
theorem dX10_plansOn_204 : decode cX10_plansOn 204 = .ok (.aload_n 0, 1) := dk_42 (dk_at dksX10_plansOn_8 21 rfl rfl)
theorem dX10_plansOn_205 : decode cX10_plansOn 205 = .ok (.iload 6, 2) := dk_21 6 (dk_at dksX10_plansOn_8 22 rfl rfl)
theorem dX10_plansOn_207 : decode cX10_plansOn 207 = .ok (.invokevirtual 378, 3) := dk_182 1 122 (dk_at dksX10_plansOn_9 0 rfl rfl)
theorem dX10_plansOn_210 : decode cX10_plansOn 210 = .ok (.aload_n 0, 1) := dk_42 (dk_at dksX10_plansOn_9 3 rfl rfl)
theorem dX10_plansOn_211 : decode cX10_plansOn 211 = .ok (.iload 7, 2) := dk_21 7 (dk_at dksX10_plansOn_9 4 rfl rfl)
theorem dX10_plansOn_213 : decode cX10_plansOn 213 = .ok (.iload 8, 2) := dk_21 8 (dk_at dksX10_plansOn_9 6 rfl rfl)
theorem dX10_plansOn_215 : decode cX10_plansOn 215 = .ok (.invokevirtual 402, 3) := dk_182 1 146 (dk_at dksX10_plansOn_9 8 rfl rfl)
theorem dX10_plansOn_218 : decode cX10_plansOn 218 = .ok (.imul, 1) := dk_104 (dk_at dksX10_plansOn_9 11 rfl rfl)
theorem dX10_plansOn_219 : decode cX10_plansOn 219 = .ok (.goto 4, 3) := dk_167 0 4 (dk_at dksX10_plansOn_9 12 rfl rfl)
theorem dX10_plansOn_222 : decode cX10_plansOn 222 = .ok (.iconst 0, 1) := dk_3 (dk_at dksX10_plansOn_9 15 rfl rfl)
theorem dX10_plansOn_223 : decode cX10_plansOn 223 = .ok (.istore 9, 2) := dk_54 9 (dk_at dksX10_plansOn_9 16 rfl rfl)
theorem dX10_plansOn_225 : decode cX10_plansOn 225 = .ok (.iconst 0, 1) := dk_3 (dk_at dksX10_plansOn_9 18 rfl rfl)
theorem dX10_plansOn_226 : decode cX10_plansOn 226 = .ok (.istore 10, 2) := dk_54 10 (dk_at dksX10_plansOn_9 19 rfl rfl)
theorem dX10_plansOn_228 : decode cX10_plansOn 228 = .ok (.iload 10, 2) := dk_21 10 (dk_at dksX10_plansOn_9 21 rfl rfl)
theorem dX10_plansOn_230 : decode cX10_plansOn 230 = .ok (.aload_n 0, 1) := dk_42 (dk_at dksX10_plansOn_9 23 rfl rfl)
theorem dX10_plansOn_231 : decode cX10_plansOn 231 = .ok (.getfield 214, 3) := dk_180 0 214 (dk_at dksX10_plansOn_10 0 rfl rfl)
theorem dX10_plansOn_234 : decode cX10_plansOn 234 = .ok (.if_icmp .ge 29, 3) := dk_162 0 29 (dk_at dksX10_plansOn_10 3 rfl rfl)
theorem dX10_plansOn_237 : decode cX10_plansOn 237 = .ok (.iload 6, 2) := dk_21 6 (dk_at dksX10_plansOn_10 6 rfl rfl)
theorem dX10_plansOn_239 : decode cX10_plansOn 239 = .ok (.iload 10, 2) := dk_21 10 (dk_at dksX10_plansOn_10 8 rfl rfl)
theorem dX10_plansOn_241 : decode cX10_plansOn 241 = .ok (.ishr, 1) := dk_122 (dk_at dksX10_plansOn_10 10 rfl rfl)
theorem dX10_plansOn_242 : decode cX10_plansOn 242 = .ok (.iconst 1, 1) := dk_4 (dk_at dksX10_plansOn_10 11 rfl rfl)
theorem dX10_plansOn_243 : decode cX10_plansOn 243 = .ok (.iand, 1) := dk_126 (dk_at dksX10_plansOn_10 12 rfl rfl)
theorem dX10_plansOn_244 : decode cX10_plansOn 244 = .ok (.iconst 1, 1) := dk_4 (dk_at dksX10_plansOn_10 13 rfl rfl)
theorem dX10_plansOn_245 : decode cX10_plansOn 245 = .ok (.if_icmp .ne 12, 3) := dk_160 0 12 (dk_at dksX10_plansOn_10 14 rfl rfl)
theorem dX10_plansOn_248 : decode cX10_plansOn 248 = .ok (.aload_n 0, 1) := dk_42 (dk_at dksX10_plansOn_10 17 rfl rfl)
theorem dX10_plansOn_249 : decode cX10_plansOn 249 = .ok (.getfield 108, 3) := dk_180 0 108 (dk_at dksX10_plansOn_10 18 rfl rfl)
theorem dX10_plansOn_252 : decode cX10_plansOn 252 = .ok (.iload 10, 2) := dk_21 10 (dk_at dksX10_plansOn_10 21 rfl rfl)
theorem dX10_plansOn_254 : decode cX10_plansOn 254 = .ok (.iload 8, 2) := dk_21 8 (dk_at dksX10_plansOn_11 0 rfl rfl)
theorem dX10_plansOn_256 : decode cX10_plansOn 256 = .ok (.iastore, 1) := dk_79 (dk_at dksX10_plansOn_11 2 rfl rfl)
theorem dX10_plansOn_257 : decode cX10_plansOn 257 = .ok (.iinc 10 1, 3) := dk_132 10 1 (dk_at dksX10_plansOn_11 3 rfl rfl)
theorem dX10_plansOn_260 : decode cX10_plansOn 260 = .ok (.goto (-32), 3) := dk_167 255 224 (dk_at dksX10_plansOn_11 6 rfl rfl)
theorem dX10_plansOn_263 : decode cX10_plansOn 263 = .ok (.aload_n 0, 1) := dk_42 (dk_at dksX10_plansOn_11 9 rfl rfl)
theorem dX10_plansOn_264 : decode cX10_plansOn 264 = .ok (.getfield 111, 3) := dk_180 0 111 (dk_at dksX10_plansOn_11 10 rfl rfl)
theorem dX10_plansOn_267 : decode cX10_plansOn 267 = .ok (.iload 5, 2) := dk_21 5 (dk_at dksX10_plansOn_11 13 rfl rfl)
theorem dX10_plansOn_269 : decode cX10_plansOn 269 = .ok (.iload 8, 2) := dk_21 8 (dk_at dksX10_plansOn_11 15 rfl rfl)
theorem dX10_plansOn_271 : decode cX10_plansOn 271 = .ok (.iastore, 1) := dk_79 (dk_at dksX10_plansOn_11 17 rfl rfl)
theorem dX10_plansOn_272 : decode cX10_plansOn 272 = .ok (.aload_n 0, 1) := dk_42 (dk_at dksX10_plansOn_11 18 rfl rfl)
theorem dX10_plansOn_273 : decode cX10_plansOn 273 = .ok (.getfield 132, 3) := dk_180 0 132 (dk_at dksX10_plansOn_11 19 rfl rfl)
theorem dX10_plansOn_276 : decode cX10_plansOn 276 = .ok (.iconst 2, 1) := dk_5 (dk_at dksX10_plansOn_11 22 rfl rfl)
theorem dX10_plansOn_277 : decode cX10_plansOn 277 = .ok (.iload_n 1, 1) := dk_27 (dk_at dksX10_plansOn_11 23 rfl rfl)
theorem dX10_plansOn_278 : decode cX10_plansOn 278 = .ok (.imul, 1) := dk_104 (dk_at dksX10_plansOn_12 0 rfl rfl)
theorem dX10_plansOn_279 : decode cX10_plansOn 279 = .ok (.iload 5, 2) := dk_21 5 (dk_at dksX10_plansOn_12 1 rfl rfl)
theorem dX10_plansOn_281 : decode cX10_plansOn 281 = .ok (.iastore, 1) := dk_79 (dk_at dksX10_plansOn_12 3 rfl rfl)
theorem dX10_plansOn_282 : decode cX10_plansOn 282 = .ok (.aload_n 0, 1) := dk_42 (dk_at dksX10_plansOn_12 4 rfl rfl)
theorem dX10_plansOn_283 : decode cX10_plansOn 283 = .ok (.getfield 132, 3) := dk_180 0 132 (dk_at dksX10_plansOn_12 5 rfl rfl)
theorem dX10_plansOn_286 : decode cX10_plansOn 286 = .ok (.iconst 2, 1) := dk_5 (dk_at dksX10_plansOn_12 8 rfl rfl)
theorem dX10_plansOn_287 : decode cX10_plansOn 287 = .ok (.iload_n 1, 1) := dk_27 (dk_at dksX10_plansOn_12 9 rfl rfl)
theorem dX10_plansOn_288 : decode cX10_plansOn 288 = .ok (.imul, 1) := dk_104 (dk_at dksX10_plansOn_12 10 rfl rfl)
theorem dX10_plansOn_289 : decode cX10_plansOn 289 = .ok (.iconst 1, 1) := dk_4 (dk_at dksX10_plansOn_12 11 rfl rfl)
theorem dX10_plansOn_290 : decode cX10_plansOn 290 = .ok (.iadd, 1) := dk_96 (dk_at dksX10_plansOn_12 12 rfl rfl)
theorem dX10_plansOn_291 : decode cX10_plansOn 291 = .ok (.iload 6, 2) := dk_21 6 (dk_at dksX10_plansOn_12 13 rfl rfl)
theorem dX10_plansOn_293 : decode cX10_plansOn 293 = .ok (.iastore, 1) := dk_79 (dk_at dksX10_plansOn_12 15 rfl rfl)
theorem dX10_plansOn_294 : decode cX10_plansOn 294 = .ok (.aload_n 0, 1) := dk_42 (dk_at dksX10_plansOn_12 16 rfl rfl)
theorem dX10_plansOn_295 : decode cX10_plansOn 295 = .ok (.iload_n 1, 1) := dk_27 (dk_at dksX10_plansOn_12 17 rfl rfl)
theorem dX10_plansOn_296 : decode cX10_plansOn 296 = .ok (.iconst 1, 1) := dk_4 (dk_at dksX10_plansOn_12 18 rfl rfl)
theorem dX10_plansOn_297 : decode cX10_plansOn 297 = .ok (.iadd, 1) := dk_96 (dk_at dksX10_plansOn_12 19 rfl rfl)
theorem dX10_plansOn_298 : decode cX10_plansOn 298 = .ok (.iload_n 2, 1) := dk_28 (dk_at dksX10_plansOn_12 20 rfl rfl)
theorem dX10_plansOn_299 : decode cX10_plansOn 299 = .ok (.iconst 1, 1) := dk_4 (dk_at dksX10_plansOn_12 21 rfl rfl)
theorem dX10_plansOn_300 : decode cX10_plansOn 300 = .ok (.iload 5, 2) := dk_21 5 (dk_at dksX10_plansOn_12 22 rfl rfl)
theorem dX10_plansOn_302 : decode cX10_plansOn 302 = .ok (.ishl, 1) := dk_120 (dk_at dksX10_plansOn_13 0 rfl rfl)
theorem dX10_plansOn_303 : decode cX10_plansOn 303 = .ok (.ior, 1) := dk_128 (dk_at dksX10_plansOn_13 1 rfl rfl)
theorem dX10_plansOn_304 : decode cX10_plansOn 304 = .ok (.iload 8, 2) := dk_21 8 (dk_at dksX10_plansOn_13 2 rfl rfl)
theorem dX10_plansOn_306 : decode cX10_plansOn 306 = .ok (.iload_n 3, 1) := dk_29 (dk_at dksX10_plansOn_13 4 rfl rfl)
theorem dX10_plansOn_307 : decode cX10_plansOn 307 = .ok (.if_icmp .le 8, 3) := dk_164 0 8 (dk_at dksX10_plansOn_13 5 rfl rfl)
theorem dX10_plansOn_310 : decode cX10_plansOn 310 = .ok (.iload 8, 2) := dk_21 8 (dk_at dksX10_plansOn_13 8 rfl rfl)
theorem dX10_plansOn_312 : decode cX10_plansOn 312 = .ok (.goto 4, 3) := dk_167 0 4 (dk_at dksX10_plansOn_13 10 rfl rfl)
theorem dX10_plansOn_315 : decode cX10_plansOn 315 = .ok (.iload_n 3, 1) := dk_29 (dk_at dksX10_plansOn_13 13 rfl rfl)
theorem dX10_plansOn_316 : decode cX10_plansOn 316 = .ok (.iload 4, 2) := dk_21 4 (dk_at dksX10_plansOn_13 14 rfl rfl)
theorem dX10_plansOn_318 : decode cX10_plansOn 318 = .ok (.iload 9, 2) := dk_21 9 (dk_at dksX10_plansOn_13 16 rfl rfl)
theorem dX10_plansOn_320 : decode cX10_plansOn 320 = .ok (.iadd, 1) := dk_96 (dk_at dksX10_plansOn_13 18 rfl rfl)
theorem dX10_plansOn_321 : decode cX10_plansOn 321 = .ok (.invokevirtual 421, 3) := dk_182 1 165 (dk_at dksX10_plansOn_13 19 rfl rfl)
theorem dX10_plansOn_324 : decode cX10_plansOn 324 = .ok (.iconst 0, 1) := dk_3 (dk_at dksX10_plansOn_13 22 rfl rfl)
theorem dX10_plansOn_325 : decode cX10_plansOn 325 = .ok (.istore 10, 2) := dk_54 10 (dk_at dksX10_plansOn_14 0 rfl rfl)
theorem dX10_plansOn_327 : decode cX10_plansOn 327 = .ok (.iload 10, 2) := dk_21 10 (dk_at dksX10_plansOn_14 2 rfl rfl)
theorem dX10_plansOn_329 : decode cX10_plansOn 329 = .ok (.iconst 4, 1) := dk_7 (dk_at dksX10_plansOn_14 4 rfl rfl)
theorem dX10_plansOn_330 : decode cX10_plansOn 330 = .ok (.if_icmp .ge 27, 3) := dk_162 0 27 (dk_at dksX10_plansOn_14 5 rfl rfl)
theorem dX10_plansOn_333 : decode cX10_plansOn 333 = .ok (.aload_n 0, 1) := dk_42 (dk_at dksX10_plansOn_14 8 rfl rfl)
theorem dX10_plansOn_334 : decode cX10_plansOn 334 = .ok (.getfield 108, 3) := dk_180 0 108 (dk_at dksX10_plansOn_14 9 rfl rfl)
theorem dX10_plansOn_337 : decode cX10_plansOn 337 = .ok (.iload 10, 2) := dk_21 10 (dk_at dksX10_plansOn_14 12 rfl rfl)
theorem dX10_plansOn_339 : decode cX10_plansOn 339 = .ok (.aload_n 0, 1) := dk_42 (dk_at dksX10_plansOn_14 14 rfl rfl)
theorem dX10_plansOn_340 : decode cX10_plansOn 340 = .ok (.getfield 126, 3) := dk_180 0 126 (dk_at dksX10_plansOn_14 15 rfl rfl)
theorem dX10_plansOn_343 : decode cX10_plansOn 343 = .ok (.iconst 4, 1) := dk_7 (dk_at dksX10_plansOn_14 18 rfl rfl)
theorem dX10_plansOn_344 : decode cX10_plansOn 344 = .ok (.iload_n 1, 1) := dk_27 (dk_at dksX10_plansOn_14 19 rfl rfl)
theorem dX10_plansOn_345 : decode cX10_plansOn 345 = .ok (.imul, 1) := dk_104 (dk_at dksX10_plansOn_14 20 rfl rfl)
theorem dX10_plansOn_346 : decode cX10_plansOn 346 = .ok (.iload 10, 2) := dk_21 10 (dk_at dksX10_plansOn_14 21 rfl rfl)
theorem dX10_plansOn_348 : decode cX10_plansOn 348 = .ok (.iadd, 1) := dk_96 (dk_at dksX10_plansOn_14 23 rfl rfl)
theorem dX10_plansOn_349 : decode cX10_plansOn 349 = .ok (.iaload, 1) := dk_46 (dk_at dksX10_plansOn_15 0 rfl rfl)
theorem dX10_plansOn_350 : decode cX10_plansOn 350 = .ok (.iastore, 1) := dk_79 (dk_at dksX10_plansOn_15 1 rfl rfl)
theorem dX10_plansOn_351 : decode cX10_plansOn 351 = .ok (.iinc 10 1, 3) := dk_132 10 1 (dk_at dksX10_plansOn_15 2 rfl rfl)
theorem dX10_plansOn_354 : decode cX10_plansOn 354 = .ok (.goto (-27), 3) := dk_167 255 229 (dk_at dksX10_plansOn_15 5 rfl rfl)
theorem dX10_plansOn_357 : decode cX10_plansOn 357 = .ok (.iinc 6 1, 3) := dk_132 6 1 (dk_at dksX10_plansOn_15 8 rfl rfl)
theorem dX10_plansOn_360 : decode cX10_plansOn 360 = .ok (.goto (-221), 3) := dk_167 255 35 (dk_at dksX10_plansOn_15 11 rfl rfl)
theorem dX10_plansOn_363 : decode cX10_plansOn 363 = .ok (.iinc 5 1, 3) := dk_132 5 1 (dk_at dksX10_plansOn_15 14 rfl rfl)
theorem dX10_plansOn_366 : decode cX10_plansOn 366 = .ok (.goto (-270), 3) := dk_167 254 242 (dk_at dksX10_plansOn_15 17 rfl rfl)
theorem dX10_plansOn_369 : decode cX10_plansOn 369 = .ok (.return_, 1) := dk_177 (dk_at dksX10_plansOn_15 20 rfl rfl)
abbrev cX10_first : ByteArray := prog_19_method_76_code
def yX10_first : MethodName := ⟨RX10, "first", "(I)I"⟩
def dkwX10_first_3 : List UInt8 := [16, 100, 42, 180, 0, 129, 5, 27, 104, 46, 104, 42, 180, 0, 129, 5, 27, 104, 4, 96, 46, 96, 172]
abbrev dktX10_first_3 : List UInt8 := dkwX10_first_3 ++ []
def dkwX10_first_2 : List UInt8 := [154, 0, 5, 3, 172, 42, 182, 1, 170, 42, 180, 1, 159, 19, 1, 169, 160, 0, 7, 2, 167, 0, 25]
abbrev dktX10_first_2 : List UInt8 := dkwX10_first_2 ++ dktX10_first_3
def dkwX10_first_1 : List UInt8 := [153, 0, 25, 42, 42, 180, 0, 217, 8, 163, 0, 7, 4, 167, 0, 4, 3, 5, 5, 182, 1, 19]
abbrev dktX10_first_1 : List UInt8 := dkwX10_first_1 ++ dktX10_first_2
def dkwX10_first_0 : List UInt8 := [42, 3, 181, 0, 3, 42, 27, 3, 42, 180, 0, 217, 4, 100, 184, 1, 108, 4, 4, 182, 1, 19]
abbrev dktX10_first_0 : List UInt8 := dkwX10_first_0 ++ dktX10_first_1
theorem dksX10_first_0 : cX10_first.data.toList.drop 0 = dktX10_first_0 := by decide +kernel
theorem dksX10_first_1 : cX10_first.data.toList.drop 22 = dktX10_first_1 := dk_seg dksX10_first_0 22 rfl rfl
theorem dksX10_first_2 : cX10_first.data.toList.drop 44 = dktX10_first_2 := dk_seg dksX10_first_1 22 rfl rfl
theorem dksX10_first_3 : cX10_first.data.toList.drop 67 = dktX10_first_3 := dk_seg dksX10_first_2 23 rfl rfl
theorem dX10_first_0 : decode cX10_first 0 = .ok (.aload_n 0, 1) := dk_42 (dk_at dksX10_first_0 0 rfl rfl)
theorem dX10_first_1 : decode cX10_first 1 = .ok (.iconst 0, 1) := dk_3 (dk_at dksX10_first_0 1 rfl rfl)
theorem dX10_first_2 : decode cX10_first 2 = .ok (.putfield 3, 3) := dk_181 0 3 (dk_at dksX10_first_0 2 rfl rfl)
theorem dX10_first_5 : decode cX10_first 5 = .ok (.aload_n 0, 1) := dk_42 (dk_at dksX10_first_0 5 rfl rfl)
theorem dX10_first_6 : decode cX10_first 6 = .ok (.iload_n 1, 1) := dk_27 (dk_at dksX10_first_0 6 rfl rfl)
theorem dX10_first_7 : decode cX10_first 7 = .ok (.iconst 0, 1) := dk_3 (dk_at dksX10_first_0 7 rfl rfl)
theorem dX10_first_8 : decode cX10_first 8 = .ok (.aload_n 0, 1) := dk_42 (dk_at dksX10_first_0 8 rfl rfl)
theorem dX10_first_9 : decode cX10_first 9 = .ok (.getfield 217, 3) := dk_180 0 217 (dk_at dksX10_first_0 9 rfl rfl)
theorem dX10_first_12 : decode cX10_first 12 = .ok (.iconst 1, 1) := dk_4 (dk_at dksX10_first_0 12 rfl rfl)
theorem dX10_first_13 : decode cX10_first 13 = .ok (.isub, 1) := dk_100 (dk_at dksX10_first_0 13 rfl rfl)
theorem dX10_first_14 : decode cX10_first 14 = .ok (.invokestatic 364, 3) := dk_184 1 108 (dk_at dksX10_first_0 14 rfl rfl)
theorem dX10_first_17 : decode cX10_first 17 = .ok (.iconst 1, 1) := dk_4 (dk_at dksX10_first_0 17 rfl rfl)
theorem dX10_first_18 : decode cX10_first 18 = .ok (.iconst 1, 1) := dk_4 (dk_at dksX10_first_0 18 rfl rfl)
theorem dX10_first_19 : decode cX10_first 19 = .ok (.invokevirtual 275, 3) := dk_182 1 19 (dk_at dksX10_first_0 19 rfl rfl)
theorem dX10_first_22 : decode cX10_first 22 = .ok (.ifCond .eq 25, 3) := dk_153 0 25 (dk_at dksX10_first_1 0 rfl rfl)
theorem dX10_first_25 : decode cX10_first 25 = .ok (.aload_n 0, 1) := dk_42 (dk_at dksX10_first_1 3 rfl rfl)
theorem dX10_first_26 : decode cX10_first 26 = .ok (.aload_n 0, 1) := dk_42 (dk_at dksX10_first_1 4 rfl rfl)
theorem dX10_first_27 : decode cX10_first 27 = .ok (.getfield 217, 3) := dk_180 0 217 (dk_at dksX10_first_1 5 rfl rfl)
theorem dX10_first_30 : decode cX10_first 30 = .ok (.iconst 5, 1) := dk_8 (dk_at dksX10_first_1 8 rfl rfl)
theorem dX10_first_31 : decode cX10_first 31 = .ok (.if_icmp .gt 7, 3) := dk_163 0 7 (dk_at dksX10_first_1 9 rfl rfl)
theorem dX10_first_34 : decode cX10_first 34 = .ok (.iconst 1, 1) := dk_4 (dk_at dksX10_first_1 12 rfl rfl)
theorem dX10_first_35 : decode cX10_first 35 = .ok (.goto 4, 3) := dk_167 0 4 (dk_at dksX10_first_1 13 rfl rfl)
theorem dX10_first_38 : decode cX10_first 38 = .ok (.iconst 0, 1) := dk_3 (dk_at dksX10_first_1 16 rfl rfl)
theorem dX10_first_39 : decode cX10_first 39 = .ok (.iconst 2, 1) := dk_5 (dk_at dksX10_first_1 17 rfl rfl)
theorem dX10_first_40 : decode cX10_first 40 = .ok (.iconst 2, 1) := dk_5 (dk_at dksX10_first_1 18 rfl rfl)
theorem dX10_first_41 : decode cX10_first 41 = .ok (.invokevirtual 275, 3) := dk_182 1 19 (dk_at dksX10_first_1 19 rfl rfl)
theorem dX10_first_44 : decode cX10_first 44 = .ok (.ifCond .ne 5, 3) := dk_154 0 5 (dk_at dksX10_first_2 0 rfl rfl)
theorem dX10_first_47 : decode cX10_first 47 = .ok (.iconst 0, 1) := dk_3 (dk_at dksX10_first_2 3 rfl rfl)
theorem dX10_first_48 : decode cX10_first 48 = .ok (.ireturn, 1) := dk_172 (dk_at dksX10_first_2 4 rfl rfl)
theorem dX10_first_49 : decode cX10_first 49 = .ok (.aload_n 0, 1) := dk_42 (dk_at dksX10_first_2 5 rfl rfl)
theorem dX10_first_50 : decode cX10_first 50 = .ok (.invokevirtual 426, 3) := dk_182 1 170 (dk_at dksX10_first_2 6 rfl rfl)
theorem dX10_first_53 : decode cX10_first 53 = .ok (.aload_n 0, 1) := dk_42 (dk_at dksX10_first_2 9 rfl rfl)
theorem dX10_first_54 : decode cX10_first 54 = .ok (.getfield 415, 3) := dk_180 1 159 (dk_at dksX10_first_2 10 rfl rfl)
theorem dX10_first_57 : decode cX10_first 57 = .ok (.ldc_w 425, 3) := dk_19 1 169 (dk_at dksX10_first_2 13 rfl rfl)
theorem dX10_first_60 : decode cX10_first 60 = .ok (.if_icmp .ne 7, 3) := dk_160 0 7 (dk_at dksX10_first_2 16 rfl rfl)
theorem dX10_first_63 : decode cX10_first 63 = .ok (.iconst (-1), 1) := dk_2 (dk_at dksX10_first_2 19 rfl rfl)
theorem dX10_first_64 : decode cX10_first 64 = .ok (.goto 25, 3) := dk_167 0 25 (dk_at dksX10_first_2 20 rfl rfl)
theorem dX10_first_67 : decode cX10_first 67 = .ok (.bipush 100, 2) := dk_16 100 (dk_at dksX10_first_3 0 rfl rfl)
theorem dX10_first_69 : decode cX10_first 69 = .ok (.aload_n 0, 1) := dk_42 (dk_at dksX10_first_3 2 rfl rfl)
theorem dX10_first_70 : decode cX10_first 70 = .ok (.getfield 129, 3) := dk_180 0 129 (dk_at dksX10_first_3 3 rfl rfl)
theorem dX10_first_73 : decode cX10_first 73 = .ok (.iconst 2, 1) := dk_5 (dk_at dksX10_first_3 6 rfl rfl)
theorem dX10_first_74 : decode cX10_first 74 = .ok (.iload_n 1, 1) := dk_27 (dk_at dksX10_first_3 7 rfl rfl)
theorem dX10_first_75 : decode cX10_first 75 = .ok (.imul, 1) := dk_104 (dk_at dksX10_first_3 8 rfl rfl)
theorem dX10_first_76 : decode cX10_first 76 = .ok (.iaload, 1) := dk_46 (dk_at dksX10_first_3 9 rfl rfl)
theorem dX10_first_77 : decode cX10_first 77 = .ok (.imul, 1) := dk_104 (dk_at dksX10_first_3 10 rfl rfl)
theorem dX10_first_78 : decode cX10_first 78 = .ok (.aload_n 0, 1) := dk_42 (dk_at dksX10_first_3 11 rfl rfl)
theorem dX10_first_79 : decode cX10_first 79 = .ok (.getfield 129, 3) := dk_180 0 129 (dk_at dksX10_first_3 12 rfl rfl)
theorem dX10_first_82 : decode cX10_first 82 = .ok (.iconst 2, 1) := dk_5 (dk_at dksX10_first_3 15 rfl rfl)
theorem dX10_first_83 : decode cX10_first 83 = .ok (.iload_n 1, 1) := dk_27 (dk_at dksX10_first_3 16 rfl rfl)
theorem dX10_first_84 : decode cX10_first 84 = .ok (.imul, 1) := dk_104 (dk_at dksX10_first_3 17 rfl rfl)
theorem dX10_first_85 : decode cX10_first 85 = .ok (.iconst 1, 1) := dk_4 (dk_at dksX10_first_3 18 rfl rfl)
theorem dX10_first_86 : decode cX10_first 86 = .ok (.iadd, 1) := dk_96 (dk_at dksX10_first_3 19 rfl rfl)
theorem dX10_first_87 : decode cX10_first 87 = .ok (.iaload, 1) := dk_46 (dk_at dksX10_first_3 20 rfl rfl)
theorem dX10_first_88 : decode cX10_first 88 = .ok (.iadd, 1) := dk_96 (dk_at dksX10_first_3 21 rfl rfl)
theorem dX10_first_89 : decode cX10_first 89 = .ok (.ireturn, 1) := dk_172 (dk_at dksX10_first_3 22 rfl rfl)
abbrev cX10_sinks : ByteArray := prog_19_method_81_code
def yX10_sinks : MethodName := ⟨RX10, "sinks", "(III)I"⟩
def dkwX10_sinks_2 : List UInt8 := [172, 42, 27, 28, 29, 182, 1, 182, 172]
abbrev dktX10_sinks_2 : List UInt8 := dkwX10_sinks_2 ++ []
def dkwX10_sinks_1 : List UInt8 := [162, 0, 14, 29, 184, 1, 179, 153, 0, 7, 4, 167, 0, 4, 3, 4, 4, 182, 1, 19, 154, 0, 5, 3]
abbrev dktX10_sinks_1 : List UInt8 := dkwX10_sinks_1 ++ dktX10_sinks_2
def dkwX10_sinks_0 : List UInt8 := [42, 3, 181, 0, 3, 42, 27, 184, 1, 176, 153, 0, 28, 28, 155, 0, 24, 28, 4, 42, 180, 0, 220, 120]
abbrev dktX10_sinks_0 : List UInt8 := dkwX10_sinks_0 ++ dktX10_sinks_1
theorem dksX10_sinks_0 : cX10_sinks.data.toList.drop 0 = dktX10_sinks_0 := by decide +kernel
theorem dksX10_sinks_1 : cX10_sinks.data.toList.drop 24 = dktX10_sinks_1 := dk_seg dksX10_sinks_0 24 rfl rfl
theorem dksX10_sinks_2 : cX10_sinks.data.toList.drop 48 = dktX10_sinks_2 := dk_seg dksX10_sinks_1 24 rfl rfl
theorem dX10_sinks_0 : decode cX10_sinks 0 = .ok (.aload_n 0, 1) := dk_42 (dk_at dksX10_sinks_0 0 rfl rfl)
theorem dX10_sinks_1 : decode cX10_sinks 1 = .ok (.iconst 0, 1) := dk_3 (dk_at dksX10_sinks_0 1 rfl rfl)
theorem dX10_sinks_2 : decode cX10_sinks 2 = .ok (.putfield 3, 3) := dk_181 0 3 (dk_at dksX10_sinks_0 2 rfl rfl)
theorem dX10_sinks_5 : decode cX10_sinks 5 = .ok (.aload_n 0, 1) := dk_42 (dk_at dksX10_sinks_0 5 rfl rfl)
theorem dX10_sinks_6 : decode cX10_sinks 6 = .ok (.iload_n 1, 1) := dk_27 (dk_at dksX10_sinks_0 6 rfl rfl)
theorem dX10_sinks_7 : decode cX10_sinks 7 = .ok (.invokestatic 432, 3) := dk_184 1 176 (dk_at dksX10_sinks_0 7 rfl rfl)
theorem dX10_sinks_10 : decode cX10_sinks 10 = .ok (.ifCond .eq 28, 3) := dk_153 0 28 (dk_at dksX10_sinks_0 10 rfl rfl)
theorem dX10_sinks_13 : decode cX10_sinks 13 = .ok (.iload_n 2, 1) := dk_28 (dk_at dksX10_sinks_0 13 rfl rfl)
theorem dX10_sinks_14 : decode cX10_sinks 14 = .ok (.ifCond .lt 24, 3) := dk_155 0 24 (dk_at dksX10_sinks_0 14 rfl rfl)
theorem dX10_sinks_17 : decode cX10_sinks 17 = .ok (.iload_n 2, 1) := dk_28 (dk_at dksX10_sinks_0 17 rfl rfl)
theorem dX10_sinks_18 : decode cX10_sinks 18 = .ok (.iconst 1, 1) := dk_4 (dk_at dksX10_sinks_0 18 rfl rfl)
theorem dX10_sinks_19 : decode cX10_sinks 19 = .ok (.aload_n 0, 1) := dk_42 (dk_at dksX10_sinks_0 19 rfl rfl)
theorem dX10_sinks_20 : decode cX10_sinks 20 = .ok (.getfield 220, 3) := dk_180 0 220 (dk_at dksX10_sinks_0 20 rfl rfl)
theorem dX10_sinks_23 : decode cX10_sinks 23 = .ok (.ishl, 1) := dk_120 (dk_at dksX10_sinks_0 23 rfl rfl)
theorem dX10_sinks_24 : decode cX10_sinks 24 = .ok (.if_icmp .ge 14, 3) := dk_162 0 14 (dk_at dksX10_sinks_1 0 rfl rfl)
theorem dX10_sinks_27 : decode cX10_sinks 27 = .ok (.iload_n 3, 1) := dk_29 (dk_at dksX10_sinks_1 3 rfl rfl)
theorem dX10_sinks_28 : decode cX10_sinks 28 = .ok (.invokestatic 435, 3) := dk_184 1 179 (dk_at dksX10_sinks_1 4 rfl rfl)
theorem dX10_sinks_31 : decode cX10_sinks 31 = .ok (.ifCond .eq 7, 3) := dk_153 0 7 (dk_at dksX10_sinks_1 7 rfl rfl)
theorem dX10_sinks_34 : decode cX10_sinks 34 = .ok (.iconst 1, 1) := dk_4 (dk_at dksX10_sinks_1 10 rfl rfl)
theorem dX10_sinks_35 : decode cX10_sinks 35 = .ok (.goto 4, 3) := dk_167 0 4 (dk_at dksX10_sinks_1 11 rfl rfl)
theorem dX10_sinks_38 : decode cX10_sinks 38 = .ok (.iconst 0, 1) := dk_3 (dk_at dksX10_sinks_1 14 rfl rfl)
theorem dX10_sinks_39 : decode cX10_sinks 39 = .ok (.iconst 1, 1) := dk_4 (dk_at dksX10_sinks_1 15 rfl rfl)
theorem dX10_sinks_40 : decode cX10_sinks 40 = .ok (.iconst 1, 1) := dk_4 (dk_at dksX10_sinks_1 16 rfl rfl)
theorem dX10_sinks_41 : decode cX10_sinks 41 = .ok (.invokevirtual 275, 3) := dk_182 1 19 (dk_at dksX10_sinks_1 17 rfl rfl)
theorem dX10_sinks_44 : decode cX10_sinks 44 = .ok (.ifCond .ne 5, 3) := dk_154 0 5 (dk_at dksX10_sinks_1 20 rfl rfl)
theorem dX10_sinks_47 : decode cX10_sinks 47 = .ok (.iconst 0, 1) := dk_3 (dk_at dksX10_sinks_1 23 rfl rfl)
theorem dX10_sinks_48 : decode cX10_sinks 48 = .ok (.ireturn, 1) := dk_172 (dk_at dksX10_sinks_2 0 rfl rfl)
theorem dX10_sinks_49 : decode cX10_sinks 49 = .ok (.aload_n 0, 1) := dk_42 (dk_at dksX10_sinks_2 1 rfl rfl)
theorem dX10_sinks_50 : decode cX10_sinks 50 = .ok (.iload_n 1, 1) := dk_27 (dk_at dksX10_sinks_2 2 rfl rfl)
theorem dX10_sinks_51 : decode cX10_sinks 51 = .ok (.iload_n 2, 1) := dk_28 (dk_at dksX10_sinks_2 3 rfl rfl)
theorem dX10_sinks_52 : decode cX10_sinks 52 = .ok (.iload_n 3, 1) := dk_29 (dk_at dksX10_sinks_2 4 rfl rfl)
theorem dX10_sinks_53 : decode cX10_sinks 53 = .ok (.invokevirtual 438, 3) := dk_182 1 182 (dk_at dksX10_sinks_2 5 rfl rfl)
theorem dX10_sinks_56 : decode cX10_sinks 56 = .ok (.ireturn, 1) := dk_172 (dk_at dksX10_sinks_2 8 rfl rfl)
abbrev cX10_isYard : ByteArray := prog_19_method_80_code
def yX10_isYard : MethodName := ⟨RX10, "isYard", "(I)Z"⟩
def dkwX10_isYard_0 : List UInt8 := [26, 155, 0, 13, 26, 16, 60, 162, 0, 7, 4, 167, 0, 4, 3, 172]
abbrev dktX10_isYard_0 : List UInt8 := dkwX10_isYard_0 ++ []
theorem dksX10_isYard_0 : cX10_isYard.data.toList.drop 0 = dktX10_isYard_0 := by decide +kernel
theorem dX10_isYard_0 : decode cX10_isYard 0 = .ok (.iload_n 0, 1) := dk_26 (dk_at dksX10_isYard_0 0 rfl rfl)
theorem dX10_isYard_1 : decode cX10_isYard 1 = .ok (.ifCond .lt 13, 3) := dk_155 0 13 (dk_at dksX10_isYard_0 1 rfl rfl)
theorem dX10_isYard_4 : decode cX10_isYard 4 = .ok (.iload_n 0, 1) := dk_26 (dk_at dksX10_isYard_0 4 rfl rfl)
theorem dX10_isYard_5 : decode cX10_isYard 5 = .ok (.bipush 60, 2) := dk_16 60 (dk_at dksX10_isYard_0 5 rfl rfl)
theorem dX10_isYard_7 : decode cX10_isYard 7 = .ok (.if_icmp .ge 7, 3) := dk_162 0 7 (dk_at dksX10_isYard_0 7 rfl rfl)
theorem dX10_isYard_10 : decode cX10_isYard 10 = .ok (.iconst 1, 1) := dk_4 (dk_at dksX10_isYard_0 10 rfl rfl)
theorem dX10_isYard_11 : decode cX10_isYard 11 = .ok (.goto 4, 3) := dk_167 0 4 (dk_at dksX10_isYard_0 11 rfl rfl)
theorem dX10_isYard_14 : decode cX10_isYard 14 = .ok (.iconst 0, 1) := dk_3 (dk_at dksX10_isYard_0 14 rfl rfl)
theorem dX10_isYard_15 : decode cX10_isYard 15 = .ok (.ireturn, 1) := dk_172 (dk_at dksX10_isYard_0 15 rfl rfl)
abbrev cX10_isMinute : ByteArray := prog_19_method_79_code
def yX10_isMinute : MethodName := ⟨RX10, "isMinute", "(I)Z"⟩
def dkwX10_isMinute_0 : List UInt8 := [26, 155, 0, 14, 26, 17, 0, 240, 163, 0, 7, 4, 167, 0, 4, 3, 172]
abbrev dktX10_isMinute_0 : List UInt8 := dkwX10_isMinute_0 ++ []
theorem dksX10_isMinute_0 : cX10_isMinute.data.toList.drop 0 = dktX10_isMinute_0 := by decide +kernel
theorem dX10_isMinute_0 : decode cX10_isMinute 0 = .ok (.iload_n 0, 1) := dk_26 (dk_at dksX10_isMinute_0 0 rfl rfl)
theorem dX10_isMinute_1 : decode cX10_isMinute 1 = .ok (.ifCond .lt 14, 3) := dk_155 0 14 (dk_at dksX10_isMinute_0 1 rfl rfl)
theorem dX10_isMinute_4 : decode cX10_isMinute 4 = .ok (.iload_n 0, 1) := dk_26 (dk_at dksX10_isMinute_0 4 rfl rfl)
theorem dX10_isMinute_5 : decode cX10_isMinute 5 = .ok (.sipush 240, 3) := dk_17 0 240 (dk_at dksX10_isMinute_0 5 rfl rfl)
theorem dX10_isMinute_8 : decode cX10_isMinute 8 = .ok (.if_icmp .gt 7, 3) := dk_163 0 7 (dk_at dksX10_isMinute_0 8 rfl rfl)
theorem dX10_isMinute_11 : decode cX10_isMinute 11 = .ok (.iconst 1, 1) := dk_4 (dk_at dksX10_isMinute_0 11 rfl rfl)
theorem dX10_isMinute_12 : decode cX10_isMinute 12 = .ok (.goto 4, 3) := dk_167 0 4 (dk_at dksX10_isMinute_0 12 rfl rfl)
theorem dX10_isMinute_15 : decode cX10_isMinute 15 = .ok (.iconst 0, 1) := dk_3 (dk_at dksX10_isMinute_0 15 rfl rfl)
theorem dX10_isMinute_16 : decode cX10_isMinute 16 = .ok (.ireturn, 1) := dk_172 (dk_at dksX10_isMinute_0 16 rfl rfl)
abbrev cX10_sinkOf : ByteArray := prog_19_method_78_code
def yX10_sinkOf : MethodName := ⟨RX10, "sinkOf", "(III)I"⟩
def dkwX10_sinkOf_1 : List UInt8 := [158, 0, 10, 21, 4, 29, 104, 167, 0, 4, 3, 172]
abbrev dktX10_sinkOf_1 : List UInt8 := dkwX10_sinkOf_1 ++ []
def dkwX10_sinkOf_0 : List UInt8 := [42, 180, 0, 69, 3, 46, 42, 28, 182, 1, 173, 108, 42, 180, 0, 47, 27, 46, 100, 54, 4, 21, 4]
abbrev dktX10_sinkOf_0 : List UInt8 := dkwX10_sinkOf_0 ++ dktX10_sinkOf_1
theorem dksX10_sinkOf_0 : cX10_sinkOf.data.toList.drop 0 = dktX10_sinkOf_0 := by decide +kernel
theorem dksX10_sinkOf_1 : cX10_sinkOf.data.toList.drop 23 = dktX10_sinkOf_1 := dk_seg dksX10_sinkOf_0 23 rfl rfl
theorem dX10_sinkOf_0 : decode cX10_sinkOf 0 = .ok (.aload_n 0, 1) := dk_42 (dk_at dksX10_sinkOf_0 0 rfl rfl)
theorem dX10_sinkOf_1 : decode cX10_sinkOf 1 = .ok (.getfield 69, 3) := dk_180 0 69 (dk_at dksX10_sinkOf_0 1 rfl rfl)
theorem dX10_sinkOf_4 : decode cX10_sinkOf 4 = .ok (.iconst 0, 1) := dk_3 (dk_at dksX10_sinkOf_0 4 rfl rfl)
theorem dX10_sinkOf_5 : decode cX10_sinkOf 5 = .ok (.iaload, 1) := dk_46 (dk_at dksX10_sinkOf_0 5 rfl rfl)
theorem dX10_sinkOf_6 : decode cX10_sinkOf 6 = .ok (.aload_n 0, 1) := dk_42 (dk_at dksX10_sinkOf_0 6 rfl rfl)
theorem dX10_sinkOf_7 : decode cX10_sinkOf 7 = .ok (.iload_n 2, 1) := dk_28 (dk_at dksX10_sinkOf_0 7 rfl rfl)
theorem dX10_sinkOf_8 : decode cX10_sinkOf 8 = .ok (.invokevirtual 429, 3) := dk_182 1 173 (dk_at dksX10_sinkOf_0 8 rfl rfl)
theorem dX10_sinkOf_11 : decode cX10_sinkOf 11 = .ok (.idiv, 1) := dk_108 (dk_at dksX10_sinkOf_0 11 rfl rfl)
theorem dX10_sinkOf_12 : decode cX10_sinkOf 12 = .ok (.aload_n 0, 1) := dk_42 (dk_at dksX10_sinkOf_0 12 rfl rfl)
theorem dX10_sinkOf_13 : decode cX10_sinkOf 13 = .ok (.getfield 47, 3) := dk_180 0 47 (dk_at dksX10_sinkOf_0 13 rfl rfl)
theorem dX10_sinkOf_16 : decode cX10_sinkOf 16 = .ok (.iload_n 1, 1) := dk_27 (dk_at dksX10_sinkOf_0 16 rfl rfl)
theorem dX10_sinkOf_17 : decode cX10_sinkOf 17 = .ok (.iaload, 1) := dk_46 (dk_at dksX10_sinkOf_0 17 rfl rfl)
theorem dX10_sinkOf_18 : decode cX10_sinkOf 18 = .ok (.isub, 1) := dk_100 (dk_at dksX10_sinkOf_0 18 rfl rfl)
theorem dX10_sinkOf_19 : decode cX10_sinkOf 19 = .ok (.istore 4, 2) := dk_54 4 (dk_at dksX10_sinkOf_0 19 rfl rfl)
theorem dX10_sinkOf_21 : decode cX10_sinkOf 21 = .ok (.iload 4, 2) := dk_21 4 (dk_at dksX10_sinkOf_0 21 rfl rfl)
theorem dX10_sinkOf_23 : decode cX10_sinkOf 23 = .ok (.ifCond .le 10, 3) := dk_158 0 10 (dk_at dksX10_sinkOf_1 0 rfl rfl)
theorem dX10_sinkOf_26 : decode cX10_sinkOf 26 = .ok (.iload 4, 2) := dk_21 4 (dk_at dksX10_sinkOf_1 3 rfl rfl)
theorem dX10_sinkOf_28 : decode cX10_sinkOf 28 = .ok (.iload_n 3, 1) := dk_29 (dk_at dksX10_sinkOf_1 5 rfl rfl)
theorem dX10_sinkOf_29 : decode cX10_sinkOf 29 = .ok (.imul, 1) := dk_104 (dk_at dksX10_sinkOf_1 6 rfl rfl)
theorem dX10_sinkOf_30 : decode cX10_sinkOf 30 = .ok (.goto 4, 3) := dk_167 0 4 (dk_at dksX10_sinkOf_1 7 rfl rfl)
theorem dX10_sinkOf_33 : decode cX10_sinkOf 33 = .ok (.iconst 0, 1) := dk_3 (dk_at dksX10_sinkOf_1 10 rfl rfl)
theorem dX10_sinkOf_34 : decode cX10_sinkOf 34 = .ok (.ireturn, 1) := dk_172 (dk_at dksX10_sinkOf_1 11 rfl rfl)
abbrev cX10_broad : ByteArray := prog_19_method_77_code
def yX10_broad : MethodName := ⟨RX10, "broad", "(I)I"⟩
def dkwX10_broad_1 : List UInt8 := [104, 96, 61, 132, 3, 1, 167, 255, 230, 28, 172]
abbrev dktX10_broad_1 : List UInt8 := dkwX10_broad_1 ++ []
def dkwX10_broad_0 : List UInt8 := [4, 61, 3, 62, 29, 42, 180, 0, 220, 162, 0, 24, 28, 27, 29, 122, 4, 126, 42, 180, 0, 50, 29, 46]
abbrev dktX10_broad_0 : List UInt8 := dkwX10_broad_0 ++ dktX10_broad_1
theorem dksX10_broad_0 : cX10_broad.data.toList.drop 0 = dktX10_broad_0 := by decide +kernel
theorem dksX10_broad_1 : cX10_broad.data.toList.drop 24 = dktX10_broad_1 := dk_seg dksX10_broad_0 24 rfl rfl
theorem dX10_broad_0 : decode cX10_broad 0 = .ok (.iconst 1, 1) := dk_4 (dk_at dksX10_broad_0 0 rfl rfl)
theorem dX10_broad_1 : decode cX10_broad 1 = .ok (.istore_n 2, 1) := dk_61 (dk_at dksX10_broad_0 1 rfl rfl)
theorem dX10_broad_2 : decode cX10_broad 2 = .ok (.iconst 0, 1) := dk_3 (dk_at dksX10_broad_0 2 rfl rfl)
theorem dX10_broad_3 : decode cX10_broad 3 = .ok (.istore_n 3, 1) := dk_62 (dk_at dksX10_broad_0 3 rfl rfl)
theorem dX10_broad_4 : decode cX10_broad 4 = .ok (.iload_n 3, 1) := dk_29 (dk_at dksX10_broad_0 4 rfl rfl)
theorem dX10_broad_5 : decode cX10_broad 5 = .ok (.aload_n 0, 1) := dk_42 (dk_at dksX10_broad_0 5 rfl rfl)
theorem dX10_broad_6 : decode cX10_broad 6 = .ok (.getfield 220, 3) := dk_180 0 220 (dk_at dksX10_broad_0 6 rfl rfl)
theorem dX10_broad_9 : decode cX10_broad 9 = .ok (.if_icmp .ge 24, 3) := dk_162 0 24 (dk_at dksX10_broad_0 9 rfl rfl)
theorem dX10_broad_12 : decode cX10_broad 12 = .ok (.iload_n 2, 1) := dk_28 (dk_at dksX10_broad_0 12 rfl rfl)
theorem dX10_broad_13 : decode cX10_broad 13 = .ok (.iload_n 1, 1) := dk_27 (dk_at dksX10_broad_0 13 rfl rfl)
theorem dX10_broad_14 : decode cX10_broad 14 = .ok (.iload_n 3, 1) := dk_29 (dk_at dksX10_broad_0 14 rfl rfl)
theorem dX10_broad_15 : decode cX10_broad 15 = .ok (.ishr, 1) := dk_122 (dk_at dksX10_broad_0 15 rfl rfl)
theorem dX10_broad_16 : decode cX10_broad 16 = .ok (.iconst 1, 1) := dk_4 (dk_at dksX10_broad_0 16 rfl rfl)
theorem dX10_broad_17 : decode cX10_broad 17 = .ok (.iand, 1) := dk_126 (dk_at dksX10_broad_0 17 rfl rfl)
theorem dX10_broad_18 : decode cX10_broad 18 = .ok (.aload_n 0, 1) := dk_42 (dk_at dksX10_broad_0 18 rfl rfl)
theorem dX10_broad_19 : decode cX10_broad 19 = .ok (.getfield 50, 3) := dk_180 0 50 (dk_at dksX10_broad_0 19 rfl rfl)
theorem dX10_broad_22 : decode cX10_broad 22 = .ok (.iload_n 3, 1) := dk_29 (dk_at dksX10_broad_0 22 rfl rfl)
theorem dX10_broad_23 : decode cX10_broad 23 = .ok (.iaload, 1) := dk_46 (dk_at dksX10_broad_0 23 rfl rfl)
theorem dX10_broad_24 : decode cX10_broad 24 = .ok (.imul, 1) := dk_104 (dk_at dksX10_broad_1 0 rfl rfl)
theorem dX10_broad_25 : decode cX10_broad 25 = .ok (.iadd, 1) := dk_96 (dk_at dksX10_broad_1 1 rfl rfl)
theorem dX10_broad_26 : decode cX10_broad 26 = .ok (.istore_n 2, 1) := dk_61 (dk_at dksX10_broad_1 2 rfl rfl)
theorem dX10_broad_27 : decode cX10_broad 27 = .ok (.iinc 3 1, 3) := dk_132 3 1 (dk_at dksX10_broad_1 3 rfl rfl)
theorem dX10_broad_30 : decode cX10_broad 30 = .ok (.goto (-26), 3) := dk_167 255 230 (dk_at dksX10_broad_1 6 rfl rfl)
theorem dX10_broad_33 : decode cX10_broad 33 = .ok (.iload_n 2, 1) := dk_28 (dk_at dksX10_broad_1 9 rfl rfl)
theorem dX10_broad_34 : decode cX10_broad 34 = .ok (.ireturn, 1) := dk_172 (dk_at dksX10_broad_1 10 rfl rfl)
abbrev cX10_under : ByteArray := prog_19_method_82_code
def yX10_under : MethodName := ⟨RX10, "under", "(III)I"⟩
def dkwX10_under_4 : List UInt8 := [182, 1, 122, 162, 0, 7, 21, 5, 54, 4, 132, 5, 1, 167, 255, 205, 21, 4, 172]
abbrev dktX10_under_4 : List UInt8 := dkwX10_under_4 ++ []
def dkwX10_under_3 : List UInt8 := [182, 1, 182, 29, 163, 0, 28, 21, 4, 2, 159, 0, 18, 42, 21, 5, 182, 1, 122, 42, 21, 4]
abbrev dktX10_under_3 : List UInt8 := dkwX10_under_3 ++ dktX10_under_4
def dkwX10_under_2 : List UInt8 := [2, 54, 4, 3, 54, 5, 21, 5, 4, 42, 180, 0, 220, 120, 162, 0, 46, 42, 27, 21, 5, 28]
abbrev dktX10_under_2 : List UInt8 := dkwX10_under_2 ++ dktX10_under_3
def dkwX10_under_1 : List UInt8 := [17, 39, 15, 184, 1, 108, 153, 0, 7, 4, 167, 0, 4, 3, 4, 4, 182, 1, 19, 154, 0, 5, 3, 172]
abbrev dktX10_under_1 : List UInt8 := dkwX10_under_1 ++ dktX10_under_2
def dkwX10_under_0 : List UInt8 := [42, 3, 181, 0, 3, 42, 27, 184, 1, 176, 153, 0, 25, 28, 184, 1, 179, 153, 0, 18, 29, 3]
abbrev dktX10_under_0 : List UInt8 := dkwX10_under_0 ++ dktX10_under_1
theorem dksX10_under_0 : cX10_under.data.toList.drop 0 = dktX10_under_0 := by decide +kernel
theorem dksX10_under_1 : cX10_under.data.toList.drop 22 = dktX10_under_1 := dk_seg dksX10_under_0 22 rfl rfl
theorem dksX10_under_2 : cX10_under.data.toList.drop 46 = dktX10_under_2 := dk_seg dksX10_under_1 24 rfl rfl
theorem dksX10_under_3 : cX10_under.data.toList.drop 68 = dktX10_under_3 := dk_seg dksX10_under_2 22 rfl rfl
theorem dksX10_under_4 : cX10_under.data.toList.drop 90 = dktX10_under_4 := dk_seg dksX10_under_3 22 rfl rfl
theorem dX10_under_0 : decode cX10_under 0 = .ok (.aload_n 0, 1) := dk_42 (dk_at dksX10_under_0 0 rfl rfl)
theorem dX10_under_1 : decode cX10_under 1 = .ok (.iconst 0, 1) := dk_3 (dk_at dksX10_under_0 1 rfl rfl)
theorem dX10_under_2 : decode cX10_under 2 = .ok (.putfield 3, 3) := dk_181 0 3 (dk_at dksX10_under_0 2 rfl rfl)
theorem dX10_under_5 : decode cX10_under 5 = .ok (.aload_n 0, 1) := dk_42 (dk_at dksX10_under_0 5 rfl rfl)
theorem dX10_under_6 : decode cX10_under 6 = .ok (.iload_n 1, 1) := dk_27 (dk_at dksX10_under_0 6 rfl rfl)
theorem dX10_under_7 : decode cX10_under 7 = .ok (.invokestatic 432, 3) := dk_184 1 176 (dk_at dksX10_under_0 7 rfl rfl)
theorem dX10_under_10 : decode cX10_under 10 = .ok (.ifCond .eq 25, 3) := dk_153 0 25 (dk_at dksX10_under_0 10 rfl rfl)
theorem dX10_under_13 : decode cX10_under 13 = .ok (.iload_n 2, 1) := dk_28 (dk_at dksX10_under_0 13 rfl rfl)
theorem dX10_under_14 : decode cX10_under 14 = .ok (.invokestatic 435, 3) := dk_184 1 179 (dk_at dksX10_under_0 14 rfl rfl)
theorem dX10_under_17 : decode cX10_under 17 = .ok (.ifCond .eq 18, 3) := dk_153 0 18 (dk_at dksX10_under_0 17 rfl rfl)
theorem dX10_under_20 : decode cX10_under 20 = .ok (.iload_n 3, 1) := dk_29 (dk_at dksX10_under_0 20 rfl rfl)
theorem dX10_under_21 : decode cX10_under 21 = .ok (.iconst 0, 1) := dk_3 (dk_at dksX10_under_0 21 rfl rfl)
theorem dX10_under_22 : decode cX10_under 22 = .ok (.sipush 9999, 3) := dk_17 39 15 (dk_at dksX10_under_1 0 rfl rfl)
theorem dX10_under_25 : decode cX10_under 25 = .ok (.invokestatic 364, 3) := dk_184 1 108 (dk_at dksX10_under_1 3 rfl rfl)
theorem dX10_under_28 : decode cX10_under 28 = .ok (.ifCond .eq 7, 3) := dk_153 0 7 (dk_at dksX10_under_1 6 rfl rfl)
theorem dX10_under_31 : decode cX10_under 31 = .ok (.iconst 1, 1) := dk_4 (dk_at dksX10_under_1 9 rfl rfl)
theorem dX10_under_32 : decode cX10_under 32 = .ok (.goto 4, 3) := dk_167 0 4 (dk_at dksX10_under_1 10 rfl rfl)
theorem dX10_under_35 : decode cX10_under 35 = .ok (.iconst 0, 1) := dk_3 (dk_at dksX10_under_1 13 rfl rfl)
theorem dX10_under_36 : decode cX10_under 36 = .ok (.iconst 1, 1) := dk_4 (dk_at dksX10_under_1 14 rfl rfl)
theorem dX10_under_37 : decode cX10_under 37 = .ok (.iconst 1, 1) := dk_4 (dk_at dksX10_under_1 15 rfl rfl)
theorem dX10_under_38 : decode cX10_under 38 = .ok (.invokevirtual 275, 3) := dk_182 1 19 (dk_at dksX10_under_1 16 rfl rfl)
theorem dX10_under_41 : decode cX10_under 41 = .ok (.ifCond .ne 5, 3) := dk_154 0 5 (dk_at dksX10_under_1 19 rfl rfl)
theorem dX10_under_44 : decode cX10_under 44 = .ok (.iconst 0, 1) := dk_3 (dk_at dksX10_under_1 22 rfl rfl)
theorem dX10_under_45 : decode cX10_under 45 = .ok (.ireturn, 1) := dk_172 (dk_at dksX10_under_1 23 rfl rfl)
theorem dX10_under_46 : decode cX10_under 46 = .ok (.iconst (-1), 1) := dk_2 (dk_at dksX10_under_2 0 rfl rfl)
theorem dX10_under_47 : decode cX10_under 47 = .ok (.istore 4, 2) := dk_54 4 (dk_at dksX10_under_2 1 rfl rfl)
theorem dX10_under_49 : decode cX10_under 49 = .ok (.iconst 0, 1) := dk_3 (dk_at dksX10_under_2 3 rfl rfl)
theorem dX10_under_50 : decode cX10_under 50 = .ok (.istore 5, 2) := dk_54 5 (dk_at dksX10_under_2 4 rfl rfl)
theorem dX10_under_52 : decode cX10_under 52 = .ok (.iload 5, 2) := dk_21 5 (dk_at dksX10_under_2 6 rfl rfl)
theorem dX10_under_54 : decode cX10_under 54 = .ok (.iconst 1, 1) := dk_4 (dk_at dksX10_under_2 8 rfl rfl)
theorem dX10_under_55 : decode cX10_under 55 = .ok (.aload_n 0, 1) := dk_42 (dk_at dksX10_under_2 9 rfl rfl)
theorem dX10_under_56 : decode cX10_under 56 = .ok (.getfield 220, 3) := dk_180 0 220 (dk_at dksX10_under_2 10 rfl rfl)
theorem dX10_under_59 : decode cX10_under 59 = .ok (.ishl, 1) := dk_120 (dk_at dksX10_under_2 13 rfl rfl)
theorem dX10_under_60 : decode cX10_under 60 = .ok (.if_icmp .ge 46, 3) := dk_162 0 46 (dk_at dksX10_under_2 14 rfl rfl)
theorem dX10_under_63 : decode cX10_under 63 = .ok (.aload_n 0, 1) := dk_42 (dk_at dksX10_under_2 17 rfl rfl)
theorem dX10_under_64 : decode cX10_under 64 = .ok (.iload_n 1, 1) := dk_27 (dk_at dksX10_under_2 18 rfl rfl)
theorem dX10_under_65 : decode cX10_under 65 = .ok (.iload 5, 2) := dk_21 5 (dk_at dksX10_under_2 19 rfl rfl)
theorem dX10_under_67 : decode cX10_under 67 = .ok (.iload_n 2, 1) := dk_28 (dk_at dksX10_under_2 21 rfl rfl)
theorem dX10_under_68 : decode cX10_under 68 = .ok (.invokevirtual 438, 3) := dk_182 1 182 (dk_at dksX10_under_3 0 rfl rfl)
theorem dX10_under_71 : decode cX10_under 71 = .ok (.iload_n 3, 1) := dk_29 (dk_at dksX10_under_3 3 rfl rfl)
theorem dX10_under_72 : decode cX10_under 72 = .ok (.if_icmp .gt 28, 3) := dk_163 0 28 (dk_at dksX10_under_3 4 rfl rfl)
theorem dX10_under_75 : decode cX10_under 75 = .ok (.iload 4, 2) := dk_21 4 (dk_at dksX10_under_3 7 rfl rfl)
theorem dX10_under_77 : decode cX10_under 77 = .ok (.iconst (-1), 1) := dk_2 (dk_at dksX10_under_3 9 rfl rfl)
theorem dX10_under_78 : decode cX10_under 78 = .ok (.if_icmp .eq 18, 3) := dk_159 0 18 (dk_at dksX10_under_3 10 rfl rfl)
theorem dX10_under_81 : decode cX10_under 81 = .ok (.aload_n 0, 1) := dk_42 (dk_at dksX10_under_3 13 rfl rfl)
theorem dX10_under_82 : decode cX10_under 82 = .ok (.iload 5, 2) := dk_21 5 (dk_at dksX10_under_3 14 rfl rfl)
theorem dX10_under_84 : decode cX10_under 84 = .ok (.invokevirtual 378, 3) := dk_182 1 122 (dk_at dksX10_under_3 16 rfl rfl)
theorem dX10_under_87 : decode cX10_under 87 = .ok (.aload_n 0, 1) := dk_42 (dk_at dksX10_under_3 19 rfl rfl)
theorem dX10_under_88 : decode cX10_under 88 = .ok (.iload 4, 2) := dk_21 4 (dk_at dksX10_under_3 20 rfl rfl)
theorem dX10_under_90 : decode cX10_under 90 = .ok (.invokevirtual 378, 3) := dk_182 1 122 (dk_at dksX10_under_4 0 rfl rfl)
theorem dX10_under_93 : decode cX10_under 93 = .ok (.if_icmp .ge 7, 3) := dk_162 0 7 (dk_at dksX10_under_4 3 rfl rfl)
theorem dX10_under_96 : decode cX10_under 96 = .ok (.iload 5, 2) := dk_21 5 (dk_at dksX10_under_4 6 rfl rfl)
theorem dX10_under_98 : decode cX10_under 98 = .ok (.istore 4, 2) := dk_54 4 (dk_at dksX10_under_4 8 rfl rfl)
theorem dX10_under_100 : decode cX10_under 100 = .ok (.iinc 5 1, 3) := dk_132 5 1 (dk_at dksX10_under_4 10 rfl rfl)
theorem dX10_under_103 : decode cX10_under 103 = .ok (.goto (-51), 3) := dk_167 255 205 (dk_at dksX10_under_4 13 rfl rfl)
theorem dX10_under_106 : decode cX10_under 106 = .ok (.iload 4, 2) := dk_21 4 (dk_at dksX10_under_4 16 rfl rfl)
theorem dX10_under_108 : decode cX10_under 108 = .ok (.ireturn, 1) := dk_172 (dk_at dksX10_under_4 18 rfl rfl)
abbrev cX10_push : ByteArray := prog_19_method_83_code
def yX10_push : MethodName := ⟨RX10, "push", "(IIII)I"⟩
def dkwX10_push_6 : List UInt8 := [172]
abbrev dktX10_push_6 : List UInt8 := dkwX10_push_6 ++ []
def dkwX10_push_5 : List UInt8 := [54, 5, 21, 8, 54, 6, 132, 7, 1, 167, 255, 192, 21, 4, 154, 0, 8, 21, 5, 167, 0, 5, 21, 6]
abbrev dktX10_push_5 : List UInt8 := dkwX10_push_5 ++ dktX10_push_6
def dkwX10_push_4 : List UInt8 := [182, 1, 182, 96, 54, 8, 21, 5, 2, 159, 0, 13, 21, 8, 21, 6, 161, 0, 6, 167, 0, 11, 21, 7]
abbrev dktX10_push_4 : List UInt8 := dkwX10_push_4 ++ dktX10_push_5
def dkwX10_push_3 : List UInt8 := [28, 21, 7, 27, 162, 0, 10, 27, 21, 7, 100, 167, 0, 7, 21, 7, 27, 100, 104, 42, 21, 7, 3, 29]
abbrev dktX10_push_3 : List UInt8 := dkwX10_push_3 ++ dktX10_push_4
def dkwX10_push_2 : List UInt8 := [182, 1, 19, 154, 0, 5, 3, 172, 2, 54, 5, 3, 54, 6, 3, 54, 7, 21, 7, 16, 60, 162, 0, 63]
abbrev dktX10_push_2 : List UInt8 := dkwX10_push_2 ++ dktX10_push_3
def dkwX10_push_1 : List UInt8 := [184, 1, 179, 153, 0, 17, 21, 4, 3, 4, 184, 1, 108, 153, 0, 7, 4, 167, 0, 4, 3, 4, 4]
abbrev dktX10_push_1 : List UInt8 := dkwX10_push_1 ++ dktX10_push_2
def dkwX10_push_0 : List UInt8 := [42, 3, 181, 0, 3, 42, 27, 184, 1, 176, 153, 0, 34, 28, 3, 16, 99, 184, 1, 108, 153, 0, 24, 29]
abbrev dktX10_push_0 : List UInt8 := dkwX10_push_0 ++ dktX10_push_1
theorem dksX10_push_0 : cX10_push.data.toList.drop 0 = dktX10_push_0 := by decide +kernel
theorem dksX10_push_1 : cX10_push.data.toList.drop 24 = dktX10_push_1 := dk_seg dksX10_push_0 24 rfl rfl
theorem dksX10_push_2 : cX10_push.data.toList.drop 47 = dktX10_push_2 := dk_seg dksX10_push_1 23 rfl rfl
theorem dksX10_push_3 : cX10_push.data.toList.drop 71 = dktX10_push_3 := dk_seg dksX10_push_2 24 rfl rfl
theorem dksX10_push_4 : cX10_push.data.toList.drop 95 = dktX10_push_4 := dk_seg dksX10_push_3 24 rfl rfl
theorem dksX10_push_5 : cX10_push.data.toList.drop 119 = dktX10_push_5 := dk_seg dksX10_push_4 24 rfl rfl
theorem dksX10_push_6 : cX10_push.data.toList.drop 143 = dktX10_push_6 := dk_seg dksX10_push_5 24 rfl rfl
theorem dX10_push_0 : decode cX10_push 0 = .ok (.aload_n 0, 1) := dk_42 (dk_at dksX10_push_0 0 rfl rfl)
theorem dX10_push_1 : decode cX10_push 1 = .ok (.iconst 0, 1) := dk_3 (dk_at dksX10_push_0 1 rfl rfl)
theorem dX10_push_2 : decode cX10_push 2 = .ok (.putfield 3, 3) := dk_181 0 3 (dk_at dksX10_push_0 2 rfl rfl)
theorem dX10_push_5 : decode cX10_push 5 = .ok (.aload_n 0, 1) := dk_42 (dk_at dksX10_push_0 5 rfl rfl)
theorem dX10_push_6 : decode cX10_push 6 = .ok (.iload_n 1, 1) := dk_27 (dk_at dksX10_push_0 6 rfl rfl)
theorem dX10_push_7 : decode cX10_push 7 = .ok (.invokestatic 432, 3) := dk_184 1 176 (dk_at dksX10_push_0 7 rfl rfl)
theorem dX10_push_10 : decode cX10_push 10 = .ok (.ifCond .eq 34, 3) := dk_153 0 34 (dk_at dksX10_push_0 10 rfl rfl)
theorem dX10_push_13 : decode cX10_push 13 = .ok (.iload_n 2, 1) := dk_28 (dk_at dksX10_push_0 13 rfl rfl)
theorem dX10_push_14 : decode cX10_push 14 = .ok (.iconst 0, 1) := dk_3 (dk_at dksX10_push_0 14 rfl rfl)
theorem dX10_push_15 : decode cX10_push 15 = .ok (.bipush 99, 2) := dk_16 99 (dk_at dksX10_push_0 15 rfl rfl)
theorem dX10_push_17 : decode cX10_push 17 = .ok (.invokestatic 364, 3) := dk_184 1 108 (dk_at dksX10_push_0 17 rfl rfl)
theorem dX10_push_20 : decode cX10_push 20 = .ok (.ifCond .eq 24, 3) := dk_153 0 24 (dk_at dksX10_push_0 20 rfl rfl)
theorem dX10_push_23 : decode cX10_push 23 = .ok (.iload_n 3, 1) := dk_29 (dk_at dksX10_push_0 23 rfl rfl)
theorem dX10_push_24 : decode cX10_push 24 = .ok (.invokestatic 435, 3) := dk_184 1 179 (dk_at dksX10_push_1 0 rfl rfl)
theorem dX10_push_27 : decode cX10_push 27 = .ok (.ifCond .eq 17, 3) := dk_153 0 17 (dk_at dksX10_push_1 3 rfl rfl)
theorem dX10_push_30 : decode cX10_push 30 = .ok (.iload 4, 2) := dk_21 4 (dk_at dksX10_push_1 6 rfl rfl)
theorem dX10_push_32 : decode cX10_push 32 = .ok (.iconst 0, 1) := dk_3 (dk_at dksX10_push_1 8 rfl rfl)
theorem dX10_push_33 : decode cX10_push 33 = .ok (.iconst 1, 1) := dk_4 (dk_at dksX10_push_1 9 rfl rfl)
theorem dX10_push_34 : decode cX10_push 34 = .ok (.invokestatic 364, 3) := dk_184 1 108 (dk_at dksX10_push_1 10 rfl rfl)
theorem dX10_push_37 : decode cX10_push 37 = .ok (.ifCond .eq 7, 3) := dk_153 0 7 (dk_at dksX10_push_1 13 rfl rfl)
theorem dX10_push_40 : decode cX10_push 40 = .ok (.iconst 1, 1) := dk_4 (dk_at dksX10_push_1 16 rfl rfl)
theorem dX10_push_41 : decode cX10_push 41 = .ok (.goto 4, 3) := dk_167 0 4 (dk_at dksX10_push_1 17 rfl rfl)
theorem dX10_push_44 : decode cX10_push 44 = .ok (.iconst 0, 1) := dk_3 (dk_at dksX10_push_1 20 rfl rfl)
theorem dX10_push_45 : decode cX10_push 45 = .ok (.iconst 1, 1) := dk_4 (dk_at dksX10_push_1 21 rfl rfl)
theorem dX10_push_46 : decode cX10_push 46 = .ok (.iconst 1, 1) := dk_4 (dk_at dksX10_push_1 22 rfl rfl)
theorem dX10_push_47 : decode cX10_push 47 = .ok (.invokevirtual 275, 3) := dk_182 1 19 (dk_at dksX10_push_2 0 rfl rfl)
theorem dX10_push_50 : decode cX10_push 50 = .ok (.ifCond .ne 5, 3) := dk_154 0 5 (dk_at dksX10_push_2 3 rfl rfl)
theorem dX10_push_53 : decode cX10_push 53 = .ok (.iconst 0, 1) := dk_3 (dk_at dksX10_push_2 6 rfl rfl)
theorem dX10_push_54 : decode cX10_push 54 = .ok (.ireturn, 1) := dk_172 (dk_at dksX10_push_2 7 rfl rfl)
theorem dX10_push_55 : decode cX10_push 55 = .ok (.iconst (-1), 1) := dk_2 (dk_at dksX10_push_2 8 rfl rfl)
theorem dX10_push_56 : decode cX10_push 56 = .ok (.istore 5, 2) := dk_54 5 (dk_at dksX10_push_2 9 rfl rfl)
theorem dX10_push_58 : decode cX10_push 58 = .ok (.iconst 0, 1) := dk_3 (dk_at dksX10_push_2 11 rfl rfl)
theorem dX10_push_59 : decode cX10_push 59 = .ok (.istore 6, 2) := dk_54 6 (dk_at dksX10_push_2 12 rfl rfl)
theorem dX10_push_61 : decode cX10_push 61 = .ok (.iconst 0, 1) := dk_3 (dk_at dksX10_push_2 14 rfl rfl)
theorem dX10_push_62 : decode cX10_push 62 = .ok (.istore 7, 2) := dk_54 7 (dk_at dksX10_push_2 15 rfl rfl)
theorem dX10_push_64 : decode cX10_push 64 = .ok (.iload 7, 2) := dk_21 7 (dk_at dksX10_push_2 17 rfl rfl)
theorem dX10_push_66 : decode cX10_push 66 = .ok (.bipush 60, 2) := dk_16 60 (dk_at dksX10_push_2 19 rfl rfl)
theorem dX10_push_68 : decode cX10_push 68 = .ok (.if_icmp .ge 63, 3) := dk_162 0 63 (dk_at dksX10_push_2 21 rfl rfl)
theorem dX10_push_71 : decode cX10_push 71 = .ok (.iload_n 2, 1) := dk_28 (dk_at dksX10_push_3 0 rfl rfl)
theorem dX10_push_72 : decode cX10_push 72 = .ok (.iload 7, 2) := dk_21 7 (dk_at dksX10_push_3 1 rfl rfl)
theorem dX10_push_74 : decode cX10_push 74 = .ok (.iload_n 1, 1) := dk_27 (dk_at dksX10_push_3 3 rfl rfl)
theorem dX10_push_75 : decode cX10_push 75 = .ok (.if_icmp .ge 10, 3) := dk_162 0 10 (dk_at dksX10_push_3 4 rfl rfl)
theorem dX10_push_78 : decode cX10_push 78 = .ok (.iload_n 1, 1) := dk_27 (dk_at dksX10_push_3 7 rfl rfl)
theorem dX10_push_79 : decode cX10_push 79 = .ok (.iload 7, 2) := dk_21 7 (dk_at dksX10_push_3 8 rfl rfl)
theorem dX10_push_81 : decode cX10_push 81 = .ok (.isub, 1) := dk_100 (dk_at dksX10_push_3 10 rfl rfl)
theorem dX10_push_82 : decode cX10_push 82 = .ok (.goto 7, 3) := dk_167 0 7 (dk_at dksX10_push_3 11 rfl rfl)
theorem dX10_push_85 : decode cX10_push 85 = .ok (.iload 7, 2) := dk_21 7 (dk_at dksX10_push_3 14 rfl rfl)
theorem dX10_push_87 : decode cX10_push 87 = .ok (.iload_n 1, 1) := dk_27 (dk_at dksX10_push_3 16 rfl rfl)
theorem dX10_push_88 : decode cX10_push 88 = .ok (.isub, 1) := dk_100 (dk_at dksX10_push_3 17 rfl rfl)
theorem dX10_push_89 : decode cX10_push 89 = .ok (.imul, 1) := dk_104 (dk_at dksX10_push_3 18 rfl rfl)
theorem dX10_push_90 : decode cX10_push 90 = .ok (.aload_n 0, 1) := dk_42 (dk_at dksX10_push_3 19 rfl rfl)
theorem dX10_push_91 : decode cX10_push 91 = .ok (.iload 7, 2) := dk_21 7 (dk_at dksX10_push_3 20 rfl rfl)
theorem dX10_push_93 : decode cX10_push 93 = .ok (.iconst 0, 1) := dk_3 (dk_at dksX10_push_3 22 rfl rfl)
theorem dX10_push_94 : decode cX10_push 94 = .ok (.iload_n 3, 1) := dk_29 (dk_at dksX10_push_3 23 rfl rfl)
theorem dX10_push_95 : decode cX10_push 95 = .ok (.invokevirtual 438, 3) := dk_182 1 182 (dk_at dksX10_push_4 0 rfl rfl)
theorem dX10_push_98 : decode cX10_push 98 = .ok (.iadd, 1) := dk_96 (dk_at dksX10_push_4 3 rfl rfl)
theorem dX10_push_99 : decode cX10_push 99 = .ok (.istore 8, 2) := dk_54 8 (dk_at dksX10_push_4 4 rfl rfl)
theorem dX10_push_101 : decode cX10_push 101 = .ok (.iload 5, 2) := dk_21 5 (dk_at dksX10_push_4 6 rfl rfl)
theorem dX10_push_103 : decode cX10_push 103 = .ok (.iconst (-1), 1) := dk_2 (dk_at dksX10_push_4 8 rfl rfl)
theorem dX10_push_104 : decode cX10_push 104 = .ok (.if_icmp .eq 13, 3) := dk_159 0 13 (dk_at dksX10_push_4 9 rfl rfl)
theorem dX10_push_107 : decode cX10_push 107 = .ok (.iload 8, 2) := dk_21 8 (dk_at dksX10_push_4 12 rfl rfl)
theorem dX10_push_109 : decode cX10_push 109 = .ok (.iload 6, 2) := dk_21 6 (dk_at dksX10_push_4 14 rfl rfl)
theorem dX10_push_111 : decode cX10_push 111 = .ok (.if_icmp .lt 6, 3) := dk_161 0 6 (dk_at dksX10_push_4 16 rfl rfl)
theorem dX10_push_114 : decode cX10_push 114 = .ok (.goto 11, 3) := dk_167 0 11 (dk_at dksX10_push_4 19 rfl rfl)
theorem dX10_push_117 : decode cX10_push 117 = .ok (.iload 7, 2) := dk_21 7 (dk_at dksX10_push_4 22 rfl rfl)
theorem dX10_push_119 : decode cX10_push 119 = .ok (.istore 5, 2) := dk_54 5 (dk_at dksX10_push_5 0 rfl rfl)
theorem dX10_push_121 : decode cX10_push 121 = .ok (.iload 8, 2) := dk_21 8 (dk_at dksX10_push_5 2 rfl rfl)
theorem dX10_push_123 : decode cX10_push 123 = .ok (.istore 6, 2) := dk_54 6 (dk_at dksX10_push_5 4 rfl rfl)
theorem dX10_push_125 : decode cX10_push 125 = .ok (.iinc 7 1, 3) := dk_132 7 1 (dk_at dksX10_push_5 6 rfl rfl)
theorem dX10_push_128 : decode cX10_push 128 = .ok (.goto (-64), 3) := dk_167 255 192 (dk_at dksX10_push_5 9 rfl rfl)
theorem dX10_push_131 : decode cX10_push 131 = .ok (.iload 4, 2) := dk_21 4 (dk_at dksX10_push_5 12 rfl rfl)
theorem dX10_push_133 : decode cX10_push 133 = .ok (.ifCond .ne 8, 3) := dk_154 0 8 (dk_at dksX10_push_5 14 rfl rfl)
theorem dX10_push_136 : decode cX10_push 136 = .ok (.iload 5, 2) := dk_21 5 (dk_at dksX10_push_5 17 rfl rfl)
theorem dX10_push_138 : decode cX10_push 138 = .ok (.goto 5, 3) := dk_167 0 5 (dk_at dksX10_push_5 19 rfl rfl)
theorem dX10_push_141 : decode cX10_push 141 = .ok (.iload 6, 2) := dk_21 6 (dk_at dksX10_push_5 22 rfl rfl)
theorem dX10_push_143 : decode cX10_push 143 = .ok (.ireturn, 1) := dk_172 (dk_at dksX10_push_6 0 rfl rfl)
abbrev cX10_tries : ByteArray := prog_19_method_88_code
def yX10_tries : MethodName := ⟨RX10, "tries", "(IIII)J"⟩
def dkwX10_tries_3 : List UInt8 := [29, 182, 1, 197, 101, 20, 1, 195, 28, 184, 1, 188, 21, 4, 184, 1, 201, 173]
abbrev dktX10_tries_3 : List UInt8 := dkwX10_tries_3 ++ []
def dkwX10_tries_2 : List UInt8 := [167, 0, 4, 3, 5, 4, 182, 1, 19, 154, 0, 5, 9, 173, 20, 1, 195, 28, 184, 1, 188, 42, 27, 28]
abbrev dktX10_tries_2 : List UInt8 := dkwX10_tries_2 ++ dktX10_tries_3
def dkwX10_tries_1 : List UInt8 := [153, 0, 27, 29, 3, 16, 18, 184, 1, 108, 153, 0, 17, 21, 4, 3, 4, 184, 1, 108, 153, 0, 7, 4]
abbrev dktX10_tries_1 : List UInt8 := dkwX10_tries_1 ++ dktX10_tries_2
def dkwX10_tries_0 : List UInt8 := [42, 3, 181, 0, 3, 42, 27, 4, 182, 1, 192, 153, 0, 47, 42, 28, 3, 16, 7, 184, 1, 108]
abbrev dktX10_tries_0 : List UInt8 := dkwX10_tries_0 ++ dktX10_tries_1
theorem dksX10_tries_0 : cX10_tries.data.toList.drop 0 = dktX10_tries_0 := by decide +kernel
theorem dksX10_tries_1 : cX10_tries.data.toList.drop 22 = dktX10_tries_1 := dk_seg dksX10_tries_0 22 rfl rfl
theorem dksX10_tries_2 : cX10_tries.data.toList.drop 46 = dktX10_tries_2 := dk_seg dksX10_tries_1 24 rfl rfl
theorem dksX10_tries_3 : cX10_tries.data.toList.drop 70 = dktX10_tries_3 := dk_seg dksX10_tries_2 24 rfl rfl
theorem dX10_tries_0 : decode cX10_tries 0 = .ok (.aload_n 0, 1) := dk_42 (dk_at dksX10_tries_0 0 rfl rfl)
theorem dX10_tries_1 : decode cX10_tries 1 = .ok (.iconst 0, 1) := dk_3 (dk_at dksX10_tries_0 1 rfl rfl)
theorem dX10_tries_2 : decode cX10_tries 2 = .ok (.putfield 3, 3) := dk_181 0 3 (dk_at dksX10_tries_0 2 rfl rfl)
theorem dX10_tries_5 : decode cX10_tries 5 = .ok (.aload_n 0, 1) := dk_42 (dk_at dksX10_tries_0 5 rfl rfl)
theorem dX10_tries_6 : decode cX10_tries 6 = .ok (.iload_n 1, 1) := dk_27 (dk_at dksX10_tries_0 6 rfl rfl)
theorem dX10_tries_7 : decode cX10_tries 7 = .ok (.iconst 1, 1) := dk_4 (dk_at dksX10_tries_0 7 rfl rfl)
theorem dX10_tries_8 : decode cX10_tries 8 = .ok (.invokevirtual 448, 3) := dk_182 1 192 (dk_at dksX10_tries_0 8 rfl rfl)
theorem dX10_tries_11 : decode cX10_tries 11 = .ok (.ifCond .eq 47, 3) := dk_153 0 47 (dk_at dksX10_tries_0 11 rfl rfl)
theorem dX10_tries_14 : decode cX10_tries 14 = .ok (.aload_n 0, 1) := dk_42 (dk_at dksX10_tries_0 14 rfl rfl)
theorem dX10_tries_15 : decode cX10_tries 15 = .ok (.iload_n 2, 1) := dk_28 (dk_at dksX10_tries_0 15 rfl rfl)
theorem dX10_tries_16 : decode cX10_tries 16 = .ok (.iconst 0, 1) := dk_3 (dk_at dksX10_tries_0 16 rfl rfl)
theorem dX10_tries_17 : decode cX10_tries 17 = .ok (.bipush 7, 2) := dk_16 7 (dk_at dksX10_tries_0 17 rfl rfl)
theorem dX10_tries_19 : decode cX10_tries 19 = .ok (.invokestatic 364, 3) := dk_184 1 108 (dk_at dksX10_tries_0 19 rfl rfl)
theorem dX10_tries_22 : decode cX10_tries 22 = .ok (.ifCond .eq 27, 3) := dk_153 0 27 (dk_at dksX10_tries_1 0 rfl rfl)
theorem dX10_tries_25 : decode cX10_tries 25 = .ok (.iload_n 3, 1) := dk_29 (dk_at dksX10_tries_1 3 rfl rfl)
theorem dX10_tries_26 : decode cX10_tries 26 = .ok (.iconst 0, 1) := dk_3 (dk_at dksX10_tries_1 4 rfl rfl)
theorem dX10_tries_27 : decode cX10_tries 27 = .ok (.bipush 18, 2) := dk_16 18 (dk_at dksX10_tries_1 5 rfl rfl)
theorem dX10_tries_29 : decode cX10_tries 29 = .ok (.invokestatic 364, 3) := dk_184 1 108 (dk_at dksX10_tries_1 7 rfl rfl)
theorem dX10_tries_32 : decode cX10_tries 32 = .ok (.ifCond .eq 17, 3) := dk_153 0 17 (dk_at dksX10_tries_1 10 rfl rfl)
theorem dX10_tries_35 : decode cX10_tries 35 = .ok (.iload 4, 2) := dk_21 4 (dk_at dksX10_tries_1 13 rfl rfl)
theorem dX10_tries_37 : decode cX10_tries 37 = .ok (.iconst 0, 1) := dk_3 (dk_at dksX10_tries_1 15 rfl rfl)
theorem dX10_tries_38 : decode cX10_tries 38 = .ok (.iconst 1, 1) := dk_4 (dk_at dksX10_tries_1 16 rfl rfl)
theorem dX10_tries_39 : decode cX10_tries 39 = .ok (.invokestatic 364, 3) := dk_184 1 108 (dk_at dksX10_tries_1 17 rfl rfl)
theorem dX10_tries_42 : decode cX10_tries 42 = .ok (.ifCond .eq 7, 3) := dk_153 0 7 (dk_at dksX10_tries_1 20 rfl rfl)
theorem dX10_tries_45 : decode cX10_tries 45 = .ok (.iconst 1, 1) := dk_4 (dk_at dksX10_tries_1 23 rfl rfl)
theorem dX10_tries_46 : decode cX10_tries 46 = .ok (.goto 4, 3) := dk_167 0 4 (dk_at dksX10_tries_2 0 rfl rfl)
theorem dX10_tries_49 : decode cX10_tries 49 = .ok (.iconst 0, 1) := dk_3 (dk_at dksX10_tries_2 3 rfl rfl)
theorem dX10_tries_50 : decode cX10_tries 50 = .ok (.iconst 2, 1) := dk_5 (dk_at dksX10_tries_2 4 rfl rfl)
theorem dX10_tries_51 : decode cX10_tries 51 = .ok (.iconst 1, 1) := dk_4 (dk_at dksX10_tries_2 5 rfl rfl)
theorem dX10_tries_52 : decode cX10_tries 52 = .ok (.invokevirtual 275, 3) := dk_182 1 19 (dk_at dksX10_tries_2 6 rfl rfl)
theorem dX10_tries_55 : decode cX10_tries 55 = .ok (.ifCond .ne 5, 3) := dk_154 0 5 (dk_at dksX10_tries_2 9 rfl rfl)
theorem dX10_tries_58 : decode cX10_tries 58 = .ok (.lconst 0, 1) := dk_9 (dk_at dksX10_tries_2 12 rfl rfl)
theorem dX10_tries_59 : decode cX10_tries 59 = .ok (.lreturn, 1) := dk_173 (dk_at dksX10_tries_2 13 rfl rfl)
theorem dX10_tries_60 : decode cX10_tries 60 = .ok (.ldc2_w 451, 3) := dk_20 1 195 (dk_at dksX10_tries_2 14 rfl rfl)
theorem dX10_tries_63 : decode cX10_tries 63 = .ok (.iload_n 2, 1) := dk_28 (dk_at dksX10_tries_2 17 rfl rfl)
theorem dX10_tries_64 : decode cX10_tries 64 = .ok (.invokestatic 444, 3) := dk_184 1 188 (dk_at dksX10_tries_2 18 rfl rfl)
theorem dX10_tries_67 : decode cX10_tries 67 = .ok (.aload_n 0, 1) := dk_42 (dk_at dksX10_tries_2 21 rfl rfl)
theorem dX10_tries_68 : decode cX10_tries 68 = .ok (.iload_n 1, 1) := dk_27 (dk_at dksX10_tries_2 22 rfl rfl)
theorem dX10_tries_69 : decode cX10_tries 69 = .ok (.iload_n 2, 1) := dk_28 (dk_at dksX10_tries_2 23 rfl rfl)
theorem dX10_tries_70 : decode cX10_tries 70 = .ok (.iload_n 3, 1) := dk_29 (dk_at dksX10_tries_3 0 rfl rfl)
theorem dX10_tries_71 : decode cX10_tries 71 = .ok (.invokevirtual 453, 3) := dk_182 1 197 (dk_at dksX10_tries_3 1 rfl rfl)
theorem dX10_tries_74 : decode cX10_tries 74 = .ok (.lsub, 1) := dk_101 (dk_at dksX10_tries_3 4 rfl rfl)
theorem dX10_tries_75 : decode cX10_tries 75 = .ok (.ldc2_w 451, 3) := dk_20 1 195 (dk_at dksX10_tries_3 5 rfl rfl)
theorem dX10_tries_78 : decode cX10_tries 78 = .ok (.iload_n 2, 1) := dk_28 (dk_at dksX10_tries_3 8 rfl rfl)
theorem dX10_tries_79 : decode cX10_tries 79 = .ok (.invokestatic 444, 3) := dk_184 1 188 (dk_at dksX10_tries_3 9 rfl rfl)
theorem dX10_tries_82 : decode cX10_tries 82 = .ok (.iload 4, 2) := dk_21 4 (dk_at dksX10_tries_3 12 rfl rfl)
theorem dX10_tries_84 : decode cX10_tries 84 = .ok (.invokestatic 457, 3) := dk_184 1 201 (dk_at dksX10_tries_3 14 rfl rfl)
theorem dX10_tries_87 : decode cX10_tries 87 = .ok (.lreturn, 1) := dk_173 (dk_at dksX10_tries_3 17 rfl rfl)
abbrev cX10_isNut : ByteArray := prog_19_method_47_code
def yX10_isNut : MethodName := ⟨RX10, "isNut", "(II)Z"⟩
def dkwX10_isNut_0 : List UInt8 := [42, 27, 3, 42, 180, 0, 223, 4, 100, 184, 1, 108, 28, 3, 182, 1, 19, 172]
abbrev dktX10_isNut_0 : List UInt8 := dkwX10_isNut_0 ++ []
theorem dksX10_isNut_0 : cX10_isNut.data.toList.drop 0 = dktX10_isNut_0 := by decide +kernel
theorem dX10_isNut_0 : decode cX10_isNut 0 = .ok (.aload_n 0, 1) := dk_42 (dk_at dksX10_isNut_0 0 rfl rfl)
theorem dX10_isNut_1 : decode cX10_isNut 1 = .ok (.iload_n 1, 1) := dk_27 (dk_at dksX10_isNut_0 1 rfl rfl)
theorem dX10_isNut_2 : decode cX10_isNut 2 = .ok (.iconst 0, 1) := dk_3 (dk_at dksX10_isNut_0 2 rfl rfl)
theorem dX10_isNut_3 : decode cX10_isNut 3 = .ok (.aload_n 0, 1) := dk_42 (dk_at dksX10_isNut_0 3 rfl rfl)
theorem dX10_isNut_4 : decode cX10_isNut 4 = .ok (.getfield 223, 3) := dk_180 0 223 (dk_at dksX10_isNut_0 4 rfl rfl)
theorem dX10_isNut_7 : decode cX10_isNut 7 = .ok (.iconst 1, 1) := dk_4 (dk_at dksX10_isNut_0 7 rfl rfl)
theorem dX10_isNut_8 : decode cX10_isNut 8 = .ok (.isub, 1) := dk_100 (dk_at dksX10_isNut_0 8 rfl rfl)
theorem dX10_isNut_9 : decode cX10_isNut 9 = .ok (.invokestatic 364, 3) := dk_184 1 108 (dk_at dksX10_isNut_0 9 rfl rfl)
theorem dX10_isNut_12 : decode cX10_isNut 12 = .ok (.iload_n 2, 1) := dk_28 (dk_at dksX10_isNut_0 12 rfl rfl)
theorem dX10_isNut_13 : decode cX10_isNut 13 = .ok (.iconst 0, 1) := dk_3 (dk_at dksX10_isNut_0 13 rfl rfl)
theorem dX10_isNut_14 : decode cX10_isNut 14 = .ok (.invokevirtual 275, 3) := dk_182 1 19 (dk_at dksX10_isNut_0 14 rfl rfl)
theorem dX10_isNut_17 : decode cX10_isNut 17 = .ok (.ireturn, 1) := dk_172 (dk_at dksX10_isNut_0 17 rfl rfl)
abbrev cX10_power : ByteArray := prog_19_method_85_code
def yX10_power : MethodName := ⟨RX10, "power", "(JI)J"⟩
def dkwX10_power_0 : List UInt8 := [10, 66, 3, 54, 5, 21, 5, 28, 162, 0, 13, 33, 30, 105, 66, 132, 5, 1, 167, 255, 243, 33, 173]
abbrev dktX10_power_0 : List UInt8 := dkwX10_power_0 ++ []
theorem dksX10_power_0 : cX10_power.data.toList.drop 0 = dktX10_power_0 := by decide +kernel
theorem dX10_power_0 : decode cX10_power 0 = .ok (.lconst 1, 1) := dk_10 (dk_at dksX10_power_0 0 rfl rfl)
theorem dX10_power_1 : decode cX10_power 1 = .ok (.lstore_n 3, 1) := dk_66 (dk_at dksX10_power_0 1 rfl rfl)
theorem dX10_power_2 : decode cX10_power 2 = .ok (.iconst 0, 1) := dk_3 (dk_at dksX10_power_0 2 rfl rfl)
theorem dX10_power_3 : decode cX10_power 3 = .ok (.istore 5, 2) := dk_54 5 (dk_at dksX10_power_0 3 rfl rfl)
theorem dX10_power_5 : decode cX10_power 5 = .ok (.iload 5, 2) := dk_21 5 (dk_at dksX10_power_0 5 rfl rfl)
theorem dX10_power_7 : decode cX10_power 7 = .ok (.iload_n 2, 1) := dk_28 (dk_at dksX10_power_0 7 rfl rfl)
theorem dX10_power_8 : decode cX10_power 8 = .ok (.if_icmp .ge 13, 3) := dk_162 0 13 (dk_at dksX10_power_0 8 rfl rfl)
theorem dX10_power_11 : decode cX10_power 11 = .ok (.lload_n 3, 1) := dk_33 (dk_at dksX10_power_0 11 rfl rfl)
theorem dX10_power_12 : decode cX10_power 12 = .ok (.lload_n 0, 1) := dk_30 (dk_at dksX10_power_0 12 rfl rfl)
theorem dX10_power_13 : decode cX10_power 13 = .ok (.lmul, 1) := dk_105 (dk_at dksX10_power_0 13 rfl rfl)
theorem dX10_power_14 : decode cX10_power 14 = .ok (.lstore_n 3, 1) := dk_66 (dk_at dksX10_power_0 14 rfl rfl)
theorem dX10_power_15 : decode cX10_power 15 = .ok (.iinc 5 1, 3) := dk_132 5 1 (dk_at dksX10_power_0 15 rfl rfl)
theorem dX10_power_18 : decode cX10_power 18 = .ok (.goto (-13), 3) := dk_167 255 243 (dk_at dksX10_power_0 18 rfl rfl)
theorem dX10_power_21 : decode cX10_power 21 = .ok (.lload_n 3, 1) := dk_33 (dk_at dksX10_power_0 21 rfl rfl)
theorem dX10_power_22 : decode cX10_power 22 = .ok (.lreturn, 1) := dk_173 (dk_at dksX10_power_0 22 rfl rfl)
abbrev cX10_stuck : ByteArray := prog_19_method_87_code
def yX10_stuck : MethodName := ⟨RX10, "stuck", "(III)J"⟩
def dkwX10_stuck_0 : List UInt8 := [16, 16, 42, 27, 29, 182, 1, 185, 100, 133, 28, 184, 1, 188, 173]
abbrev dktX10_stuck_0 : List UInt8 := dkwX10_stuck_0 ++ []
theorem dksX10_stuck_0 : cX10_stuck.data.toList.drop 0 = dktX10_stuck_0 := by decide +kernel
theorem dX10_stuck_0 : decode cX10_stuck 0 = .ok (.bipush 16, 2) := dk_16 16 (dk_at dksX10_stuck_0 0 rfl rfl)
theorem dX10_stuck_2 : decode cX10_stuck 2 = .ok (.aload_n 0, 1) := dk_42 (dk_at dksX10_stuck_0 2 rfl rfl)
theorem dX10_stuck_3 : decode cX10_stuck 3 = .ok (.iload_n 1, 1) := dk_27 (dk_at dksX10_stuck_0 3 rfl rfl)
theorem dX10_stuck_4 : decode cX10_stuck 4 = .ok (.iload_n 3, 1) := dk_29 (dk_at dksX10_stuck_0 4 rfl rfl)
theorem dX10_stuck_5 : decode cX10_stuck 5 = .ok (.invokevirtual 441, 3) := dk_182 1 185 (dk_at dksX10_stuck_0 5 rfl rfl)
theorem dX10_stuck_8 : decode cX10_stuck 8 = .ok (.isub, 1) := dk_100 (dk_at dksX10_stuck_0 8 rfl rfl)
theorem dX10_stuck_9 : decode cX10_stuck 9 = .ok (.i2l, 1) := dk_133 (dk_at dksX10_stuck_0 9 rfl rfl)
theorem dX10_stuck_10 : decode cX10_stuck 10 = .ok (.iload_n 2, 1) := dk_28 (dk_at dksX10_stuck_0 10 rfl rfl)
theorem dX10_stuck_11 : decode cX10_stuck 11 = .ok (.invokestatic 444, 3) := dk_184 1 188 (dk_at dksX10_stuck_0 11 rfl rfl)
theorem dX10_stuck_14 : decode cX10_stuck 14 = .ok (.lreturn, 1) := dk_173 (dk_at dksX10_stuck_0 14 rfl rfl)
abbrev cX10_easeOf : ByteArray := prog_19_method_86_code
def yX10_easeOf : MethodName := ⟨RX10, "easeOf", "(II)I"⟩
def dkwX10_easeOf_1 : List UInt8 := [164, 0, 8, 16, 16, 167, 0, 4, 29, 172]
abbrev dktX10_easeOf_1 : List UInt8 := dkwX10_easeOf_1 ++ []
def dkwX10_easeOf_0 : List UInt8 := [5, 28, 104, 42, 180, 0, 53, 27, 46, 100, 62, 29, 156, 0, 7, 3, 167, 0, 15, 29, 16, 16]
abbrev dktX10_easeOf_0 : List UInt8 := dkwX10_easeOf_0 ++ dktX10_easeOf_1
theorem dksX10_easeOf_0 : cX10_easeOf.data.toList.drop 0 = dktX10_easeOf_0 := by decide +kernel
theorem dksX10_easeOf_1 : cX10_easeOf.data.toList.drop 22 = dktX10_easeOf_1 := dk_seg dksX10_easeOf_0 22 rfl rfl
theorem dX10_easeOf_0 : decode cX10_easeOf 0 = .ok (.iconst 2, 1) := dk_5 (dk_at dksX10_easeOf_0 0 rfl rfl)
theorem dX10_easeOf_1 : decode cX10_easeOf 1 = .ok (.iload_n 2, 1) := dk_28 (dk_at dksX10_easeOf_0 1 rfl rfl)
theorem dX10_easeOf_2 : decode cX10_easeOf 2 = .ok (.imul, 1) := dk_104 (dk_at dksX10_easeOf_0 2 rfl rfl)
theorem dX10_easeOf_3 : decode cX10_easeOf 3 = .ok (.aload_n 0, 1) := dk_42 (dk_at dksX10_easeOf_0 3 rfl rfl)
theorem dX10_easeOf_4 : decode cX10_easeOf 4 = .ok (.getfield 53, 3) := dk_180 0 53 (dk_at dksX10_easeOf_0 4 rfl rfl)
theorem dX10_easeOf_7 : decode cX10_easeOf 7 = .ok (.iload_n 1, 1) := dk_27 (dk_at dksX10_easeOf_0 7 rfl rfl)
theorem dX10_easeOf_8 : decode cX10_easeOf 8 = .ok (.iaload, 1) := dk_46 (dk_at dksX10_easeOf_0 8 rfl rfl)
theorem dX10_easeOf_9 : decode cX10_easeOf 9 = .ok (.isub, 1) := dk_100 (dk_at dksX10_easeOf_0 9 rfl rfl)
theorem dX10_easeOf_10 : decode cX10_easeOf 10 = .ok (.istore_n 3, 1) := dk_62 (dk_at dksX10_easeOf_0 10 rfl rfl)
theorem dX10_easeOf_11 : decode cX10_easeOf 11 = .ok (.iload_n 3, 1) := dk_29 (dk_at dksX10_easeOf_0 11 rfl rfl)
theorem dX10_easeOf_12 : decode cX10_easeOf 12 = .ok (.ifCond .ge 7, 3) := dk_156 0 7 (dk_at dksX10_easeOf_0 12 rfl rfl)
theorem dX10_easeOf_15 : decode cX10_easeOf 15 = .ok (.iconst 0, 1) := dk_3 (dk_at dksX10_easeOf_0 15 rfl rfl)
theorem dX10_easeOf_16 : decode cX10_easeOf 16 = .ok (.goto 15, 3) := dk_167 0 15 (dk_at dksX10_easeOf_0 16 rfl rfl)
theorem dX10_easeOf_19 : decode cX10_easeOf 19 = .ok (.iload_n 3, 1) := dk_29 (dk_at dksX10_easeOf_0 19 rfl rfl)
theorem dX10_easeOf_20 : decode cX10_easeOf 20 = .ok (.bipush 16, 2) := dk_16 16 (dk_at dksX10_easeOf_0 20 rfl rfl)
theorem dX10_easeOf_22 : decode cX10_easeOf 22 = .ok (.if_icmp .le 8, 3) := dk_164 0 8 (dk_at dksX10_easeOf_1 0 rfl rfl)
theorem dX10_easeOf_25 : decode cX10_easeOf 25 = .ok (.bipush 16, 2) := dk_16 16 (dk_at dksX10_easeOf_1 3 rfl rfl)
theorem dX10_easeOf_27 : decode cX10_easeOf 27 = .ok (.goto 4, 3) := dk_167 0 4 (dk_at dksX10_easeOf_1 5 rfl rfl)
theorem dX10_easeOf_30 : decode cX10_easeOf 30 = .ok (.iload_n 3, 1) := dk_29 (dk_at dksX10_easeOf_1 8 rfl rfl)
theorem dX10_easeOf_31 : decode cX10_easeOf 31 = .ok (.ireturn, 1) := dk_172 (dk_at dksX10_easeOf_1 9 rfl rfl)
abbrev cX10_least : ByteArray := prog_19_method_84_code
def yX10_least : MethodName := ⟨RX10, "least", "(JJI)J"⟩
def dkwX10_least_1 : List UInt8 := [22, 9, 55, 7, 167, 255, 234, 21, 4, 154, 0, 7, 30, 167, 0, 4, 32, 22, 5, 109, 173]
abbrev dktX10_least_1 : List UInt8 := dkwX10_least_1 ++ []
def dkwX10_least_0 : List UInt8 := [30, 55, 5, 32, 55, 7, 22, 7, 9, 148, 153, 0, 21, 22, 5, 22, 7, 113, 55, 9, 22, 7, 55, 5]
abbrev dktX10_least_0 : List UInt8 := dkwX10_least_0 ++ dktX10_least_1
theorem dksX10_least_0 : cX10_least.data.toList.drop 0 = dktX10_least_0 := by decide +kernel
theorem dksX10_least_1 : cX10_least.data.toList.drop 24 = dktX10_least_1 := dk_seg dksX10_least_0 24 rfl rfl
theorem dX10_least_0 : decode cX10_least 0 = .ok (.lload_n 0, 1) := dk_30 (dk_at dksX10_least_0 0 rfl rfl)
theorem dX10_least_1 : decode cX10_least 1 = .ok (.lstore 5, 2) := dk_55 5 (dk_at dksX10_least_0 1 rfl rfl)
theorem dX10_least_3 : decode cX10_least 3 = .ok (.lload_n 2, 1) := dk_32 (dk_at dksX10_least_0 3 rfl rfl)
theorem dX10_least_4 : decode cX10_least 4 = .ok (.lstore 7, 2) := dk_55 7 (dk_at dksX10_least_0 4 rfl rfl)
theorem dX10_least_6 : decode cX10_least 6 = .ok (.lload 7, 2) := dk_22 7 (dk_at dksX10_least_0 6 rfl rfl)
theorem dX10_least_8 : decode cX10_least 8 = .ok (.lconst 0, 1) := dk_9 (dk_at dksX10_least_0 8 rfl rfl)
theorem dX10_least_9 : decode cX10_least 9 = .ok (.lcmp, 1) := dk_148 (dk_at dksX10_least_0 9 rfl rfl)
theorem dX10_least_10 : decode cX10_least 10 = .ok (.ifCond .eq 21, 3) := dk_153 0 21 (dk_at dksX10_least_0 10 rfl rfl)
theorem dX10_least_13 : decode cX10_least 13 = .ok (.lload 5, 2) := dk_22 5 (dk_at dksX10_least_0 13 rfl rfl)
theorem dX10_least_15 : decode cX10_least 15 = .ok (.lload 7, 2) := dk_22 7 (dk_at dksX10_least_0 15 rfl rfl)
theorem dX10_least_17 : decode cX10_least 17 = .ok (.lrem, 1) := dk_113 (dk_at dksX10_least_0 17 rfl rfl)
theorem dX10_least_18 : decode cX10_least 18 = .ok (.lstore 9, 2) := dk_55 9 (dk_at dksX10_least_0 18 rfl rfl)
theorem dX10_least_20 : decode cX10_least 20 = .ok (.lload 7, 2) := dk_22 7 (dk_at dksX10_least_0 20 rfl rfl)
theorem dX10_least_22 : decode cX10_least 22 = .ok (.lstore 5, 2) := dk_55 5 (dk_at dksX10_least_0 22 rfl rfl)
theorem dX10_least_24 : decode cX10_least 24 = .ok (.lload 9, 2) := dk_22 9 (dk_at dksX10_least_1 0 rfl rfl)
theorem dX10_least_26 : decode cX10_least 26 = .ok (.lstore 7, 2) := dk_55 7 (dk_at dksX10_least_1 2 rfl rfl)
theorem dX10_least_28 : decode cX10_least 28 = .ok (.goto (-22), 3) := dk_167 255 234 (dk_at dksX10_least_1 4 rfl rfl)
theorem dX10_least_31 : decode cX10_least 31 = .ok (.iload 4, 2) := dk_21 4 (dk_at dksX10_least_1 7 rfl rfl)
theorem dX10_least_33 : decode cX10_least 33 = .ok (.ifCond .ne 7, 3) := dk_154 0 7 (dk_at dksX10_least_1 9 rfl rfl)
theorem dX10_least_36 : decode cX10_least 36 = .ok (.lload_n 0, 1) := dk_30 (dk_at dksX10_least_1 12 rfl rfl)
theorem dX10_least_37 : decode cX10_least 37 = .ok (.goto 4, 3) := dk_167 0 4 (dk_at dksX10_least_1 13 rfl rfl)
theorem dX10_least_40 : decode cX10_least 40 = .ok (.lload_n 2, 1) := dk_32 (dk_at dksX10_least_1 16 rfl rfl)
theorem dX10_least_41 : decode cX10_least 41 = .ok (.lload 5, 2) := dk_22 5 (dk_at dksX10_least_1 17 rfl rfl)
theorem dX10_least_43 : decode cX10_least 43 = .ok (.ldiv, 1) := dk_109 (dk_at dksX10_least_1 19 rfl rfl)
theorem dX10_least_44 : decode cX10_least 44 = .ok (.lreturn, 1) := dk_173 (dk_at dksX10_least_1 20 rfl rfl)
abbrev cX10_half : ByteArray := prog_19_method_89_code
def yX10_half : MethodName := ⟨RX10, "half", "(II)I"⟩
def dkwX10_half_3 : List UInt8 := [172]
abbrev dktX10_half_3 : List UInt8 := dkwX10_half_3 ++ []
def dkwX10_half_2 : List UInt8 := [182, 1, 197, 105, 20, 1, 195, 29, 184, 1, 188, 148, 157, 0, 5, 29, 172, 132, 3, 1, 167, 255, 223, 2]
abbrev dktX10_half_2 : List UInt8 := dkwX10_half_2 ++ dktX10_half_3
def dkwX10_half_1 : List UInt8 := [182, 1, 19, 154, 0, 5, 3, 172, 4, 62, 29, 16, 7, 163, 0, 33, 20, 1, 204, 42, 27, 29, 28]
abbrev dktX10_half_1 : List UInt8 := dkwX10_half_1 ++ dktX10_half_2
def dkwX10_half_0 : List UInt8 := [42, 3, 181, 0, 3, 42, 27, 4, 182, 1, 192, 153, 0, 19, 42, 28, 3, 16, 18, 184, 1, 108, 5, 4]
abbrev dktX10_half_0 : List UInt8 := dkwX10_half_0 ++ dktX10_half_1
theorem dksX10_half_0 : cX10_half.data.toList.drop 0 = dktX10_half_0 := by decide +kernel
theorem dksX10_half_1 : cX10_half.data.toList.drop 24 = dktX10_half_1 := dk_seg dksX10_half_0 24 rfl rfl
theorem dksX10_half_2 : cX10_half.data.toList.drop 47 = dktX10_half_2 := dk_seg dksX10_half_1 23 rfl rfl
theorem dksX10_half_3 : cX10_half.data.toList.drop 71 = dktX10_half_3 := dk_seg dksX10_half_2 24 rfl rfl
theorem dX10_half_0 : decode cX10_half 0 = .ok (.aload_n 0, 1) := dk_42 (dk_at dksX10_half_0 0 rfl rfl)
theorem dX10_half_1 : decode cX10_half 1 = .ok (.iconst 0, 1) := dk_3 (dk_at dksX10_half_0 1 rfl rfl)
theorem dX10_half_2 : decode cX10_half 2 = .ok (.putfield 3, 3) := dk_181 0 3 (dk_at dksX10_half_0 2 rfl rfl)
theorem dX10_half_5 : decode cX10_half 5 = .ok (.aload_n 0, 1) := dk_42 (dk_at dksX10_half_0 5 rfl rfl)
theorem dX10_half_6 : decode cX10_half 6 = .ok (.iload_n 1, 1) := dk_27 (dk_at dksX10_half_0 6 rfl rfl)
theorem dX10_half_7 : decode cX10_half 7 = .ok (.iconst 1, 1) := dk_4 (dk_at dksX10_half_0 7 rfl rfl)
theorem dX10_half_8 : decode cX10_half 8 = .ok (.invokevirtual 448, 3) := dk_182 1 192 (dk_at dksX10_half_0 8 rfl rfl)
theorem dX10_half_11 : decode cX10_half 11 = .ok (.ifCond .eq 19, 3) := dk_153 0 19 (dk_at dksX10_half_0 11 rfl rfl)
theorem dX10_half_14 : decode cX10_half 14 = .ok (.aload_n 0, 1) := dk_42 (dk_at dksX10_half_0 14 rfl rfl)
theorem dX10_half_15 : decode cX10_half 15 = .ok (.iload_n 2, 1) := dk_28 (dk_at dksX10_half_0 15 rfl rfl)
theorem dX10_half_16 : decode cX10_half 16 = .ok (.iconst 0, 1) := dk_3 (dk_at dksX10_half_0 16 rfl rfl)
theorem dX10_half_17 : decode cX10_half 17 = .ok (.bipush 18, 2) := dk_16 18 (dk_at dksX10_half_0 17 rfl rfl)
theorem dX10_half_19 : decode cX10_half 19 = .ok (.invokestatic 364, 3) := dk_184 1 108 (dk_at dksX10_half_0 19 rfl rfl)
theorem dX10_half_22 : decode cX10_half 22 = .ok (.iconst 2, 1) := dk_5 (dk_at dksX10_half_0 22 rfl rfl)
theorem dX10_half_23 : decode cX10_half 23 = .ok (.iconst 1, 1) := dk_4 (dk_at dksX10_half_0 23 rfl rfl)
theorem dX10_half_24 : decode cX10_half 24 = .ok (.invokevirtual 275, 3) := dk_182 1 19 (dk_at dksX10_half_1 0 rfl rfl)
theorem dX10_half_27 : decode cX10_half 27 = .ok (.ifCond .ne 5, 3) := dk_154 0 5 (dk_at dksX10_half_1 3 rfl rfl)
theorem dX10_half_30 : decode cX10_half 30 = .ok (.iconst 0, 1) := dk_3 (dk_at dksX10_half_1 6 rfl rfl)
theorem dX10_half_31 : decode cX10_half 31 = .ok (.ireturn, 1) := dk_172 (dk_at dksX10_half_1 7 rfl rfl)
theorem dX10_half_32 : decode cX10_half 32 = .ok (.iconst 1, 1) := dk_4 (dk_at dksX10_half_1 8 rfl rfl)
theorem dX10_half_33 : decode cX10_half 33 = .ok (.istore_n 3, 1) := dk_62 (dk_at dksX10_half_1 9 rfl rfl)
theorem dX10_half_34 : decode cX10_half 34 = .ok (.iload_n 3, 1) := dk_29 (dk_at dksX10_half_1 10 rfl rfl)
theorem dX10_half_35 : decode cX10_half 35 = .ok (.bipush 7, 2) := dk_16 7 (dk_at dksX10_half_1 11 rfl rfl)
theorem dX10_half_37 : decode cX10_half 37 = .ok (.if_icmp .gt 33, 3) := dk_163 0 33 (dk_at dksX10_half_1 13 rfl rfl)
theorem dX10_half_40 : decode cX10_half 40 = .ok (.ldc2_w 460, 3) := dk_20 1 204 (dk_at dksX10_half_1 16 rfl rfl)
theorem dX10_half_43 : decode cX10_half 43 = .ok (.aload_n 0, 1) := dk_42 (dk_at dksX10_half_1 19 rfl rfl)
theorem dX10_half_44 : decode cX10_half 44 = .ok (.iload_n 1, 1) := dk_27 (dk_at dksX10_half_1 20 rfl rfl)
theorem dX10_half_45 : decode cX10_half 45 = .ok (.iload_n 3, 1) := dk_29 (dk_at dksX10_half_1 21 rfl rfl)
theorem dX10_half_46 : decode cX10_half 46 = .ok (.iload_n 2, 1) := dk_28 (dk_at dksX10_half_1 22 rfl rfl)
theorem dX10_half_47 : decode cX10_half 47 = .ok (.invokevirtual 453, 3) := dk_182 1 197 (dk_at dksX10_half_2 0 rfl rfl)
theorem dX10_half_50 : decode cX10_half 50 = .ok (.lmul, 1) := dk_105 (dk_at dksX10_half_2 3 rfl rfl)
theorem dX10_half_51 : decode cX10_half 51 = .ok (.ldc2_w 451, 3) := dk_20 1 195 (dk_at dksX10_half_2 4 rfl rfl)
theorem dX10_half_54 : decode cX10_half 54 = .ok (.iload_n 3, 1) := dk_29 (dk_at dksX10_half_2 7 rfl rfl)
theorem dX10_half_55 : decode cX10_half 55 = .ok (.invokestatic 444, 3) := dk_184 1 188 (dk_at dksX10_half_2 8 rfl rfl)
theorem dX10_half_58 : decode cX10_half 58 = .ok (.lcmp, 1) := dk_148 (dk_at dksX10_half_2 11 rfl rfl)
theorem dX10_half_59 : decode cX10_half 59 = .ok (.ifCond .gt 5, 3) := dk_157 0 5 (dk_at dksX10_half_2 12 rfl rfl)
theorem dX10_half_62 : decode cX10_half 62 = .ok (.iload_n 3, 1) := dk_29 (dk_at dksX10_half_2 15 rfl rfl)
theorem dX10_half_63 : decode cX10_half 63 = .ok (.ireturn, 1) := dk_172 (dk_at dksX10_half_2 16 rfl rfl)
theorem dX10_half_64 : decode cX10_half 64 = .ok (.iinc 3 1, 3) := dk_132 3 1 (dk_at dksX10_half_2 17 rfl rfl)
theorem dX10_half_67 : decode cX10_half 67 = .ok (.goto (-33), 3) := dk_167 255 223 (dk_at dksX10_half_2 20 rfl rfl)
theorem dX10_half_70 : decode cX10_half 70 = .ok (.iconst (-1), 1) := dk_2 (dk_at dksX10_half_2 23 rfl rfl)
theorem dX10_half_71 : decode cX10_half 71 = .ok (.ireturn, 1) := dk_172 (dk_at dksX10_half_3 0 rfl rfl)
abbrev cX10_easiest : ByteArray := prog_19_method_90_code
def yX10_easiest : MethodName := ⟨RX10, "easiest", "(I)I"⟩
def dkwX10_easiest_2 : List UInt8 := [27, 182, 1, 185, 164, 0, 5, 29, 61, 132, 3, 1, 167, 255, 223, 28, 172]
abbrev dktX10_easiest_2 : List UInt8 := dkwX10_easiest_2 ++ []
def dkwX10_easiest_1 : List UInt8 := [61, 3, 62, 29, 42, 180, 0, 223, 162, 0, 31, 28, 2, 159, 0, 18, 42, 29, 27, 182, 1, 185, 42, 28]
abbrev dktX10_easiest_1 : List UInt8 := dkwX10_easiest_1 ++ dktX10_easiest_2
def dkwX10_easiest_0 : List UInt8 := [42, 3, 181, 0, 3, 42, 27, 3, 16, 18, 184, 1, 108, 4, 4, 182, 1, 19, 154, 0, 5, 3, 172, 2]
abbrev dktX10_easiest_0 : List UInt8 := dkwX10_easiest_0 ++ dktX10_easiest_1
theorem dksX10_easiest_0 : cX10_easiest.data.toList.drop 0 = dktX10_easiest_0 := by decide +kernel
theorem dksX10_easiest_1 : cX10_easiest.data.toList.drop 24 = dktX10_easiest_1 := dk_seg dksX10_easiest_0 24 rfl rfl
theorem dksX10_easiest_2 : cX10_easiest.data.toList.drop 48 = dktX10_easiest_2 := dk_seg dksX10_easiest_1 24 rfl rfl
theorem dX10_easiest_0 : decode cX10_easiest 0 = .ok (.aload_n 0, 1) := dk_42 (dk_at dksX10_easiest_0 0 rfl rfl)
theorem dX10_easiest_1 : decode cX10_easiest 1 = .ok (.iconst 0, 1) := dk_3 (dk_at dksX10_easiest_0 1 rfl rfl)
theorem dX10_easiest_2 : decode cX10_easiest 2 = .ok (.putfield 3, 3) := dk_181 0 3 (dk_at dksX10_easiest_0 2 rfl rfl)
theorem dX10_easiest_5 : decode cX10_easiest 5 = .ok (.aload_n 0, 1) := dk_42 (dk_at dksX10_easiest_0 5 rfl rfl)
theorem dX10_easiest_6 : decode cX10_easiest 6 = .ok (.iload_n 1, 1) := dk_27 (dk_at dksX10_easiest_0 6 rfl rfl)
theorem dX10_easiest_7 : decode cX10_easiest 7 = .ok (.iconst 0, 1) := dk_3 (dk_at dksX10_easiest_0 7 rfl rfl)
theorem dX10_easiest_8 : decode cX10_easiest 8 = .ok (.bipush 18, 2) := dk_16 18 (dk_at dksX10_easiest_0 8 rfl rfl)
theorem dX10_easiest_10 : decode cX10_easiest 10 = .ok (.invokestatic 364, 3) := dk_184 1 108 (dk_at dksX10_easiest_0 10 rfl rfl)
theorem dX10_easiest_13 : decode cX10_easiest 13 = .ok (.iconst 1, 1) := dk_4 (dk_at dksX10_easiest_0 13 rfl rfl)
theorem dX10_easiest_14 : decode cX10_easiest 14 = .ok (.iconst 1, 1) := dk_4 (dk_at dksX10_easiest_0 14 rfl rfl)
theorem dX10_easiest_15 : decode cX10_easiest 15 = .ok (.invokevirtual 275, 3) := dk_182 1 19 (dk_at dksX10_easiest_0 15 rfl rfl)
theorem dX10_easiest_18 : decode cX10_easiest 18 = .ok (.ifCond .ne 5, 3) := dk_154 0 5 (dk_at dksX10_easiest_0 18 rfl rfl)
theorem dX10_easiest_21 : decode cX10_easiest 21 = .ok (.iconst 0, 1) := dk_3 (dk_at dksX10_easiest_0 21 rfl rfl)
theorem dX10_easiest_22 : decode cX10_easiest 22 = .ok (.ireturn, 1) := dk_172 (dk_at dksX10_easiest_0 22 rfl rfl)
theorem dX10_easiest_23 : decode cX10_easiest 23 = .ok (.iconst (-1), 1) := dk_2 (dk_at dksX10_easiest_0 23 rfl rfl)
theorem dX10_easiest_24 : decode cX10_easiest 24 = .ok (.istore_n 2, 1) := dk_61 (dk_at dksX10_easiest_1 0 rfl rfl)
theorem dX10_easiest_25 : decode cX10_easiest 25 = .ok (.iconst 0, 1) := dk_3 (dk_at dksX10_easiest_1 1 rfl rfl)
theorem dX10_easiest_26 : decode cX10_easiest 26 = .ok (.istore_n 3, 1) := dk_62 (dk_at dksX10_easiest_1 2 rfl rfl)
theorem dX10_easiest_27 : decode cX10_easiest 27 = .ok (.iload_n 3, 1) := dk_29 (dk_at dksX10_easiest_1 3 rfl rfl)
theorem dX10_easiest_28 : decode cX10_easiest 28 = .ok (.aload_n 0, 1) := dk_42 (dk_at dksX10_easiest_1 4 rfl rfl)
theorem dX10_easiest_29 : decode cX10_easiest 29 = .ok (.getfield 223, 3) := dk_180 0 223 (dk_at dksX10_easiest_1 5 rfl rfl)
theorem dX10_easiest_32 : decode cX10_easiest 32 = .ok (.if_icmp .ge 31, 3) := dk_162 0 31 (dk_at dksX10_easiest_1 8 rfl rfl)
theorem dX10_easiest_35 : decode cX10_easiest 35 = .ok (.iload_n 2, 1) := dk_28 (dk_at dksX10_easiest_1 11 rfl rfl)
theorem dX10_easiest_36 : decode cX10_easiest 36 = .ok (.iconst (-1), 1) := dk_2 (dk_at dksX10_easiest_1 12 rfl rfl)
theorem dX10_easiest_37 : decode cX10_easiest 37 = .ok (.if_icmp .eq 18, 3) := dk_159 0 18 (dk_at dksX10_easiest_1 13 rfl rfl)
theorem dX10_easiest_40 : decode cX10_easiest 40 = .ok (.aload_n 0, 1) := dk_42 (dk_at dksX10_easiest_1 16 rfl rfl)
theorem dX10_easiest_41 : decode cX10_easiest 41 = .ok (.iload_n 3, 1) := dk_29 (dk_at dksX10_easiest_1 17 rfl rfl)
theorem dX10_easiest_42 : decode cX10_easiest 42 = .ok (.iload_n 1, 1) := dk_27 (dk_at dksX10_easiest_1 18 rfl rfl)
theorem dX10_easiest_43 : decode cX10_easiest 43 = .ok (.invokevirtual 441, 3) := dk_182 1 185 (dk_at dksX10_easiest_1 19 rfl rfl)
theorem dX10_easiest_46 : decode cX10_easiest 46 = .ok (.aload_n 0, 1) := dk_42 (dk_at dksX10_easiest_1 22 rfl rfl)
theorem dX10_easiest_47 : decode cX10_easiest 47 = .ok (.iload_n 2, 1) := dk_28 (dk_at dksX10_easiest_1 23 rfl rfl)
theorem dX10_easiest_48 : decode cX10_easiest 48 = .ok (.iload_n 1, 1) := dk_27 (dk_at dksX10_easiest_2 0 rfl rfl)
theorem dX10_easiest_49 : decode cX10_easiest 49 = .ok (.invokevirtual 441, 3) := dk_182 1 185 (dk_at dksX10_easiest_2 1 rfl rfl)
theorem dX10_easiest_52 : decode cX10_easiest 52 = .ok (.if_icmp .le 5, 3) := dk_164 0 5 (dk_at dksX10_easiest_2 4 rfl rfl)
theorem dX10_easiest_55 : decode cX10_easiest 55 = .ok (.iload_n 3, 1) := dk_29 (dk_at dksX10_easiest_2 7 rfl rfl)
theorem dX10_easiest_56 : decode cX10_easiest 56 = .ok (.istore_n 2, 1) := dk_61 (dk_at dksX10_easiest_2 8 rfl rfl)
theorem dX10_easiest_57 : decode cX10_easiest 57 = .ok (.iinc 3 1, 3) := dk_132 3 1 (dk_at dksX10_easiest_2 9 rfl rfl)
theorem dX10_easiest_60 : decode cX10_easiest 60 = .ok (.goto (-33), 3) := dk_167 255 223 (dk_at dksX10_easiest_2 12 rfl rfl)
theorem dX10_easiest_63 : decode cX10_easiest 63 = .ok (.iload_n 2, 1) := dk_28 (dk_at dksX10_easiest_2 15 rfl rfl)
theorem dX10_easiest_64 : decode cX10_easiest 64 = .ok (.ireturn, 1) := dk_172 (dk_at dksX10_easiest_2 16 rfl rfl)
abbrev cX10_waits : ByteArray := prog_19_method_92_code
def yX10_waits : MethodName := ⟨RX10, "waits", "(IIII)J"⟩
def dkwX10_waits_3 : List UInt8 := [184, 1, 201, 173]
abbrev dktX10_waits_3 : List UInt8 := dkwX10_waits_3 ++ []
def dkwX10_waits_2 : List UInt8 := [182, 1, 19, 154, 0, 5, 9, 173, 42, 27, 28, 29, 182, 1, 206, 20, 1, 195, 27, 184, 1, 188, 21, 4]
abbrev dktX10_waits_2 : List UInt8 := dkwX10_waits_2 ++ dktX10_waits_3
def dkwX10_waits_1 : List UInt8 := [184, 1, 179, 153, 0, 17, 21, 4, 3, 4, 184, 1, 108, 153, 0, 7, 4, 167, 0, 4, 3, 4, 4]
abbrev dktX10_waits_1 : List UInt8 := dkwX10_waits_1 ++ dktX10_waits_2
def dkwX10_waits_0 : List UInt8 := [42, 3, 181, 0, 3, 42, 27, 3, 16, 8, 184, 1, 108, 153, 0, 31, 28, 184, 1, 179, 153, 0, 24, 29]
abbrev dktX10_waits_0 : List UInt8 := dkwX10_waits_0 ++ dktX10_waits_1
theorem dksX10_waits_0 : cX10_waits.data.toList.drop 0 = dktX10_waits_0 := by decide +kernel
theorem dksX10_waits_1 : cX10_waits.data.toList.drop 24 = dktX10_waits_1 := dk_seg dksX10_waits_0 24 rfl rfl
theorem dksX10_waits_2 : cX10_waits.data.toList.drop 47 = dktX10_waits_2 := dk_seg dksX10_waits_1 23 rfl rfl
theorem dksX10_waits_3 : cX10_waits.data.toList.drop 71 = dktX10_waits_3 := dk_seg dksX10_waits_2 24 rfl rfl
theorem dX10_waits_0 : decode cX10_waits 0 = .ok (.aload_n 0, 1) := dk_42 (dk_at dksX10_waits_0 0 rfl rfl)
theorem dX10_waits_1 : decode cX10_waits 1 = .ok (.iconst 0, 1) := dk_3 (dk_at dksX10_waits_0 1 rfl rfl)
theorem dX10_waits_2 : decode cX10_waits 2 = .ok (.putfield 3, 3) := dk_181 0 3 (dk_at dksX10_waits_0 2 rfl rfl)
theorem dX10_waits_5 : decode cX10_waits 5 = .ok (.aload_n 0, 1) := dk_42 (dk_at dksX10_waits_0 5 rfl rfl)
theorem dX10_waits_6 : decode cX10_waits 6 = .ok (.iload_n 1, 1) := dk_27 (dk_at dksX10_waits_0 6 rfl rfl)
theorem dX10_waits_7 : decode cX10_waits 7 = .ok (.iconst 0, 1) := dk_3 (dk_at dksX10_waits_0 7 rfl rfl)
theorem dX10_waits_8 : decode cX10_waits 8 = .ok (.bipush 8, 2) := dk_16 8 (dk_at dksX10_waits_0 8 rfl rfl)
theorem dX10_waits_10 : decode cX10_waits 10 = .ok (.invokestatic 364, 3) := dk_184 1 108 (dk_at dksX10_waits_0 10 rfl rfl)
theorem dX10_waits_13 : decode cX10_waits 13 = .ok (.ifCond .eq 31, 3) := dk_153 0 31 (dk_at dksX10_waits_0 13 rfl rfl)
theorem dX10_waits_16 : decode cX10_waits 16 = .ok (.iload_n 2, 1) := dk_28 (dk_at dksX10_waits_0 16 rfl rfl)
theorem dX10_waits_17 : decode cX10_waits 17 = .ok (.invokestatic 435, 3) := dk_184 1 179 (dk_at dksX10_waits_0 17 rfl rfl)
theorem dX10_waits_20 : decode cX10_waits 20 = .ok (.ifCond .eq 24, 3) := dk_153 0 24 (dk_at dksX10_waits_0 20 rfl rfl)
theorem dX10_waits_23 : decode cX10_waits 23 = .ok (.iload_n 3, 1) := dk_29 (dk_at dksX10_waits_0 23 rfl rfl)
theorem dX10_waits_24 : decode cX10_waits 24 = .ok (.invokestatic 435, 3) := dk_184 1 179 (dk_at dksX10_waits_1 0 rfl rfl)
theorem dX10_waits_27 : decode cX10_waits 27 = .ok (.ifCond .eq 17, 3) := dk_153 0 17 (dk_at dksX10_waits_1 3 rfl rfl)
theorem dX10_waits_30 : decode cX10_waits 30 = .ok (.iload 4, 2) := dk_21 4 (dk_at dksX10_waits_1 6 rfl rfl)
theorem dX10_waits_32 : decode cX10_waits 32 = .ok (.iconst 0, 1) := dk_3 (dk_at dksX10_waits_1 8 rfl rfl)
theorem dX10_waits_33 : decode cX10_waits 33 = .ok (.iconst 1, 1) := dk_4 (dk_at dksX10_waits_1 9 rfl rfl)
theorem dX10_waits_34 : decode cX10_waits 34 = .ok (.invokestatic 364, 3) := dk_184 1 108 (dk_at dksX10_waits_1 10 rfl rfl)
theorem dX10_waits_37 : decode cX10_waits 37 = .ok (.ifCond .eq 7, 3) := dk_153 0 7 (dk_at dksX10_waits_1 13 rfl rfl)
theorem dX10_waits_40 : decode cX10_waits 40 = .ok (.iconst 1, 1) := dk_4 (dk_at dksX10_waits_1 16 rfl rfl)
theorem dX10_waits_41 : decode cX10_waits 41 = .ok (.goto 4, 3) := dk_167 0 4 (dk_at dksX10_waits_1 17 rfl rfl)
theorem dX10_waits_44 : decode cX10_waits 44 = .ok (.iconst 0, 1) := dk_3 (dk_at dksX10_waits_1 20 rfl rfl)
theorem dX10_waits_45 : decode cX10_waits 45 = .ok (.iconst 1, 1) := dk_4 (dk_at dksX10_waits_1 21 rfl rfl)
theorem dX10_waits_46 : decode cX10_waits 46 = .ok (.iconst 1, 1) := dk_4 (dk_at dksX10_waits_1 22 rfl rfl)
theorem dX10_waits_47 : decode cX10_waits 47 = .ok (.invokevirtual 275, 3) := dk_182 1 19 (dk_at dksX10_waits_2 0 rfl rfl)
theorem dX10_waits_50 : decode cX10_waits 50 = .ok (.ifCond .ne 5, 3) := dk_154 0 5 (dk_at dksX10_waits_2 3 rfl rfl)
theorem dX10_waits_53 : decode cX10_waits 53 = .ok (.lconst 0, 1) := dk_9 (dk_at dksX10_waits_2 6 rfl rfl)
theorem dX10_waits_54 : decode cX10_waits 54 = .ok (.lreturn, 1) := dk_173 (dk_at dksX10_waits_2 7 rfl rfl)
theorem dX10_waits_55 : decode cX10_waits 55 = .ok (.aload_n 0, 1) := dk_42 (dk_at dksX10_waits_2 8 rfl rfl)
theorem dX10_waits_56 : decode cX10_waits 56 = .ok (.iload_n 1, 1) := dk_27 (dk_at dksX10_waits_2 9 rfl rfl)
theorem dX10_waits_57 : decode cX10_waits 57 = .ok (.iload_n 2, 1) := dk_28 (dk_at dksX10_waits_2 10 rfl rfl)
theorem dX10_waits_58 : decode cX10_waits 58 = .ok (.iload_n 3, 1) := dk_29 (dk_at dksX10_waits_2 11 rfl rfl)
theorem dX10_waits_59 : decode cX10_waits 59 = .ok (.invokevirtual 462, 3) := dk_182 1 206 (dk_at dksX10_waits_2 12 rfl rfl)
theorem dX10_waits_62 : decode cX10_waits 62 = .ok (.ldc2_w 451, 3) := dk_20 1 195 (dk_at dksX10_waits_2 15 rfl rfl)
theorem dX10_waits_65 : decode cX10_waits 65 = .ok (.iload_n 1, 1) := dk_27 (dk_at dksX10_waits_2 18 rfl rfl)
theorem dX10_waits_66 : decode cX10_waits 66 = .ok (.invokestatic 444, 3) := dk_184 1 188 (dk_at dksX10_waits_2 19 rfl rfl)
theorem dX10_waits_69 : decode cX10_waits 69 = .ok (.iload 4, 2) := dk_21 4 (dk_at dksX10_waits_2 22 rfl rfl)
theorem dX10_waits_71 : decode cX10_waits 71 = .ok (.invokestatic 457, 3) := dk_184 1 201 (dk_at dksX10_waits_3 0 rfl rfl)
theorem dX10_waits_74 : decode cX10_waits 74 = .ok (.lreturn, 1) := dk_173 (dk_at dksX10_waits_3 3 rfl rfl)
abbrev cX10_meanOf : ByteArray := prog_19_method_91_code
def yX10_meanOf : MethodName := ⟨RX10, "meanOf", "(III)J"⟩
def dkwX10_meanOf_3 : List UInt8 := [97, 173]
abbrev dktX10_meanOf_3 : List UInt8 := dkwX10_meanOf_3 ++ []
def dkwX10_meanOf_2 : List UInt8 := [16, 16, 21, 4, 100, 133, 105, 55, 7, 132, 9, 1, 167, 255, 215, 22, 5, 22, 7, 27, 28, 96, 133, 105]
abbrev dktX10_meanOf_2 : List UInt8 := dkwX10_meanOf_2 ++ dktX10_meanOf_3
def dkwX10_meanOf_1 : List UInt8 := [20, 1, 195, 22, 5, 105, 22, 7, 21, 4, 133, 105, 21, 9, 29, 96, 133, 105, 97, 55, 5, 22, 7]
abbrev dktX10_meanOf_1 : List UInt8 := dkwX10_meanOf_1 ++ dktX10_meanOf_2
def dkwX10_meanOf_0 : List UInt8 := [42, 180, 0, 69, 4, 46, 54, 4, 9, 55, 5, 10, 55, 7, 4, 54, 9, 21, 9, 27, 163, 0, 41]
abbrev dktX10_meanOf_0 : List UInt8 := dkwX10_meanOf_0 ++ dktX10_meanOf_1
theorem dksX10_meanOf_0 : cX10_meanOf.data.toList.drop 0 = dktX10_meanOf_0 := by decide +kernel
theorem dksX10_meanOf_1 : cX10_meanOf.data.toList.drop 23 = dktX10_meanOf_1 := dk_seg dksX10_meanOf_0 23 rfl rfl
theorem dksX10_meanOf_2 : cX10_meanOf.data.toList.drop 46 = dktX10_meanOf_2 := dk_seg dksX10_meanOf_1 23 rfl rfl
theorem dksX10_meanOf_3 : cX10_meanOf.data.toList.drop 70 = dktX10_meanOf_3 := dk_seg dksX10_meanOf_2 24 rfl rfl
theorem dX10_meanOf_0 : decode cX10_meanOf 0 = .ok (.aload_n 0, 1) := dk_42 (dk_at dksX10_meanOf_0 0 rfl rfl)
theorem dX10_meanOf_1 : decode cX10_meanOf 1 = .ok (.getfield 69, 3) := dk_180 0 69 (dk_at dksX10_meanOf_0 1 rfl rfl)
theorem dX10_meanOf_4 : decode cX10_meanOf 4 = .ok (.iconst 1, 1) := dk_4 (dk_at dksX10_meanOf_0 4 rfl rfl)
theorem dX10_meanOf_5 : decode cX10_meanOf 5 = .ok (.iaload, 1) := dk_46 (dk_at dksX10_meanOf_0 5 rfl rfl)
theorem dX10_meanOf_6 : decode cX10_meanOf 6 = .ok (.istore 4, 2) := dk_54 4 (dk_at dksX10_meanOf_0 6 rfl rfl)
theorem dX10_meanOf_8 : decode cX10_meanOf 8 = .ok (.lconst 0, 1) := dk_9 (dk_at dksX10_meanOf_0 8 rfl rfl)
theorem dX10_meanOf_9 : decode cX10_meanOf 9 = .ok (.lstore 5, 2) := dk_55 5 (dk_at dksX10_meanOf_0 9 rfl rfl)
theorem dX10_meanOf_11 : decode cX10_meanOf 11 = .ok (.lconst 1, 1) := dk_10 (dk_at dksX10_meanOf_0 11 rfl rfl)
theorem dX10_meanOf_12 : decode cX10_meanOf 12 = .ok (.lstore 7, 2) := dk_55 7 (dk_at dksX10_meanOf_0 12 rfl rfl)
theorem dX10_meanOf_14 : decode cX10_meanOf 14 = .ok (.iconst 1, 1) := dk_4 (dk_at dksX10_meanOf_0 14 rfl rfl)
theorem dX10_meanOf_15 : decode cX10_meanOf 15 = .ok (.istore 9, 2) := dk_54 9 (dk_at dksX10_meanOf_0 15 rfl rfl)
theorem dX10_meanOf_17 : decode cX10_meanOf 17 = .ok (.iload 9, 2) := dk_21 9 (dk_at dksX10_meanOf_0 17 rfl rfl)
theorem dX10_meanOf_19 : decode cX10_meanOf 19 = .ok (.iload_n 1, 1) := dk_27 (dk_at dksX10_meanOf_0 19 rfl rfl)
theorem dX10_meanOf_20 : decode cX10_meanOf 20 = .ok (.if_icmp .gt 41, 3) := dk_163 0 41 (dk_at dksX10_meanOf_0 20 rfl rfl)
theorem dX10_meanOf_23 : decode cX10_meanOf 23 = .ok (.ldc2_w 451, 3) := dk_20 1 195 (dk_at dksX10_meanOf_1 0 rfl rfl)
theorem dX10_meanOf_26 : decode cX10_meanOf 26 = .ok (.lload 5, 2) := dk_22 5 (dk_at dksX10_meanOf_1 3 rfl rfl)
theorem dX10_meanOf_28 : decode cX10_meanOf 28 = .ok (.lmul, 1) := dk_105 (dk_at dksX10_meanOf_1 5 rfl rfl)
theorem dX10_meanOf_29 : decode cX10_meanOf 29 = .ok (.lload 7, 2) := dk_22 7 (dk_at dksX10_meanOf_1 6 rfl rfl)
theorem dX10_meanOf_31 : decode cX10_meanOf 31 = .ok (.iload 4, 2) := dk_21 4 (dk_at dksX10_meanOf_1 8 rfl rfl)
theorem dX10_meanOf_33 : decode cX10_meanOf 33 = .ok (.i2l, 1) := dk_133 (dk_at dksX10_meanOf_1 10 rfl rfl)
theorem dX10_meanOf_34 : decode cX10_meanOf 34 = .ok (.lmul, 1) := dk_105 (dk_at dksX10_meanOf_1 11 rfl rfl)
theorem dX10_meanOf_35 : decode cX10_meanOf 35 = .ok (.iload 9, 2) := dk_21 9 (dk_at dksX10_meanOf_1 12 rfl rfl)
theorem dX10_meanOf_37 : decode cX10_meanOf 37 = .ok (.iload_n 3, 1) := dk_29 (dk_at dksX10_meanOf_1 14 rfl rfl)
theorem dX10_meanOf_38 : decode cX10_meanOf 38 = .ok (.iadd, 1) := dk_96 (dk_at dksX10_meanOf_1 15 rfl rfl)
theorem dX10_meanOf_39 : decode cX10_meanOf 39 = .ok (.i2l, 1) := dk_133 (dk_at dksX10_meanOf_1 16 rfl rfl)
theorem dX10_meanOf_40 : decode cX10_meanOf 40 = .ok (.lmul, 1) := dk_105 (dk_at dksX10_meanOf_1 17 rfl rfl)
theorem dX10_meanOf_41 : decode cX10_meanOf 41 = .ok (.ladd, 1) := dk_97 (dk_at dksX10_meanOf_1 18 rfl rfl)
theorem dX10_meanOf_42 : decode cX10_meanOf 42 = .ok (.lstore 5, 2) := dk_55 5 (dk_at dksX10_meanOf_1 19 rfl rfl)
theorem dX10_meanOf_44 : decode cX10_meanOf 44 = .ok (.lload 7, 2) := dk_22 7 (dk_at dksX10_meanOf_1 21 rfl rfl)
theorem dX10_meanOf_46 : decode cX10_meanOf 46 = .ok (.bipush 16, 2) := dk_16 16 (dk_at dksX10_meanOf_2 0 rfl rfl)
theorem dX10_meanOf_48 : decode cX10_meanOf 48 = .ok (.iload 4, 2) := dk_21 4 (dk_at dksX10_meanOf_2 2 rfl rfl)
theorem dX10_meanOf_50 : decode cX10_meanOf 50 = .ok (.isub, 1) := dk_100 (dk_at dksX10_meanOf_2 4 rfl rfl)
theorem dX10_meanOf_51 : decode cX10_meanOf 51 = .ok (.i2l, 1) := dk_133 (dk_at dksX10_meanOf_2 5 rfl rfl)
theorem dX10_meanOf_52 : decode cX10_meanOf 52 = .ok (.lmul, 1) := dk_105 (dk_at dksX10_meanOf_2 6 rfl rfl)
theorem dX10_meanOf_53 : decode cX10_meanOf 53 = .ok (.lstore 7, 2) := dk_55 7 (dk_at dksX10_meanOf_2 7 rfl rfl)
theorem dX10_meanOf_55 : decode cX10_meanOf 55 = .ok (.iinc 9 1, 3) := dk_132 9 1 (dk_at dksX10_meanOf_2 9 rfl rfl)
theorem dX10_meanOf_58 : decode cX10_meanOf 58 = .ok (.goto (-41), 3) := dk_167 255 215 (dk_at dksX10_meanOf_2 12 rfl rfl)
theorem dX10_meanOf_61 : decode cX10_meanOf 61 = .ok (.lload 5, 2) := dk_22 5 (dk_at dksX10_meanOf_2 15 rfl rfl)
theorem dX10_meanOf_63 : decode cX10_meanOf 63 = .ok (.lload 7, 2) := dk_22 7 (dk_at dksX10_meanOf_2 17 rfl rfl)
theorem dX10_meanOf_65 : decode cX10_meanOf 65 = .ok (.iload_n 1, 1) := dk_27 (dk_at dksX10_meanOf_2 19 rfl rfl)
theorem dX10_meanOf_66 : decode cX10_meanOf 66 = .ok (.iload_n 2, 1) := dk_28 (dk_at dksX10_meanOf_2 20 rfl rfl)
theorem dX10_meanOf_67 : decode cX10_meanOf 67 = .ok (.iadd, 1) := dk_96 (dk_at dksX10_meanOf_2 21 rfl rfl)
theorem dX10_meanOf_68 : decode cX10_meanOf 68 = .ok (.i2l, 1) := dk_133 (dk_at dksX10_meanOf_2 22 rfl rfl)
theorem dX10_meanOf_69 : decode cX10_meanOf 69 = .ok (.lmul, 1) := dk_105 (dk_at dksX10_meanOf_2 23 rfl rfl)
theorem dX10_meanOf_70 : decode cX10_meanOf 70 = .ok (.ladd, 1) := dk_97 (dk_at dksX10_meanOf_3 0 rfl rfl)
theorem dX10_meanOf_71 : decode cX10_meanOf 71 = .ok (.lreturn, 1) := dk_173 (dk_at dksX10_meanOf_3 1 rfl rfl)
abbrev cX10_await : ByteArray := prog_19_method_93_code
def yX10_await : MethodName := ⟨RX10, "await", "(II)I"⟩
def dkwX10_await_3 : List UInt8 := [105, 148, 156, 0, 6, 21, 4, 62, 132, 4, 1, 167, 255, 213, 29, 172]
abbrev dktX10_await_3 : List UInt8 := dkwX10_await_3 ++ []
def dkwX10_await_2 : List UInt8 := [21, 4, 27, 28, 182, 1, 206, 42, 29, 27, 28, 182, 1, 206, 20, 1, 195, 21, 4, 29, 100, 184, 1, 188]
abbrev dktX10_await_2 : List UInt8 := dkwX10_await_2 ++ dktX10_await_3
def dkwX10_await_1 : List UInt8 := [3, 4, 4, 182, 1, 19, 154, 0, 5, 3, 172, 3, 62, 4, 54, 4, 21, 4, 16, 8, 163, 0, 42, 42]
abbrev dktX10_await_1 : List UInt8 := dkwX10_await_1 ++ dktX10_await_2
def dkwX10_await_0 : List UInt8 := [42, 3, 181, 0, 3, 42, 27, 184, 1, 179, 153, 0, 14, 28, 184, 1, 179, 153, 0, 7, 4, 167, 0, 4]
abbrev dktX10_await_0 : List UInt8 := dkwX10_await_0 ++ dktX10_await_1
theorem dksX10_await_0 : cX10_await.data.toList.drop 0 = dktX10_await_0 := by decide +kernel
theorem dksX10_await_1 : cX10_await.data.toList.drop 24 = dktX10_await_1 := dk_seg dksX10_await_0 24 rfl rfl
theorem dksX10_await_2 : cX10_await.data.toList.drop 48 = dktX10_await_2 := dk_seg dksX10_await_1 24 rfl rfl
theorem dksX10_await_3 : cX10_await.data.toList.drop 72 = dktX10_await_3 := dk_seg dksX10_await_2 24 rfl rfl
theorem dX10_await_0 : decode cX10_await 0 = .ok (.aload_n 0, 1) := dk_42 (dk_at dksX10_await_0 0 rfl rfl)
theorem dX10_await_1 : decode cX10_await 1 = .ok (.iconst 0, 1) := dk_3 (dk_at dksX10_await_0 1 rfl rfl)
theorem dX10_await_2 : decode cX10_await 2 = .ok (.putfield 3, 3) := dk_181 0 3 (dk_at dksX10_await_0 2 rfl rfl)
theorem dX10_await_5 : decode cX10_await 5 = .ok (.aload_n 0, 1) := dk_42 (dk_at dksX10_await_0 5 rfl rfl)
theorem dX10_await_6 : decode cX10_await 6 = .ok (.iload_n 1, 1) := dk_27 (dk_at dksX10_await_0 6 rfl rfl)
theorem dX10_await_7 : decode cX10_await 7 = .ok (.invokestatic 435, 3) := dk_184 1 179 (dk_at dksX10_await_0 7 rfl rfl)
theorem dX10_await_10 : decode cX10_await 10 = .ok (.ifCond .eq 14, 3) := dk_153 0 14 (dk_at dksX10_await_0 10 rfl rfl)
theorem dX10_await_13 : decode cX10_await 13 = .ok (.iload_n 2, 1) := dk_28 (dk_at dksX10_await_0 13 rfl rfl)
theorem dX10_await_14 : decode cX10_await 14 = .ok (.invokestatic 435, 3) := dk_184 1 179 (dk_at dksX10_await_0 14 rfl rfl)
theorem dX10_await_17 : decode cX10_await 17 = .ok (.ifCond .eq 7, 3) := dk_153 0 7 (dk_at dksX10_await_0 17 rfl rfl)
theorem dX10_await_20 : decode cX10_await 20 = .ok (.iconst 1, 1) := dk_4 (dk_at dksX10_await_0 20 rfl rfl)
theorem dX10_await_21 : decode cX10_await 21 = .ok (.goto 4, 3) := dk_167 0 4 (dk_at dksX10_await_0 21 rfl rfl)
theorem dX10_await_24 : decode cX10_await 24 = .ok (.iconst 0, 1) := dk_3 (dk_at dksX10_await_1 0 rfl rfl)
theorem dX10_await_25 : decode cX10_await 25 = .ok (.iconst 1, 1) := dk_4 (dk_at dksX10_await_1 1 rfl rfl)
theorem dX10_await_26 : decode cX10_await 26 = .ok (.iconst 1, 1) := dk_4 (dk_at dksX10_await_1 2 rfl rfl)
theorem dX10_await_27 : decode cX10_await 27 = .ok (.invokevirtual 275, 3) := dk_182 1 19 (dk_at dksX10_await_1 3 rfl rfl)
theorem dX10_await_30 : decode cX10_await 30 = .ok (.ifCond .ne 5, 3) := dk_154 0 5 (dk_at dksX10_await_1 6 rfl rfl)
theorem dX10_await_33 : decode cX10_await 33 = .ok (.iconst 0, 1) := dk_3 (dk_at dksX10_await_1 9 rfl rfl)
theorem dX10_await_34 : decode cX10_await 34 = .ok (.ireturn, 1) := dk_172 (dk_at dksX10_await_1 10 rfl rfl)
theorem dX10_await_35 : decode cX10_await 35 = .ok (.iconst 0, 1) := dk_3 (dk_at dksX10_await_1 11 rfl rfl)
theorem dX10_await_36 : decode cX10_await 36 = .ok (.istore_n 3, 1) := dk_62 (dk_at dksX10_await_1 12 rfl rfl)
theorem dX10_await_37 : decode cX10_await 37 = .ok (.iconst 1, 1) := dk_4 (dk_at dksX10_await_1 13 rfl rfl)
theorem dX10_await_38 : decode cX10_await 38 = .ok (.istore 4, 2) := dk_54 4 (dk_at dksX10_await_1 14 rfl rfl)
theorem dX10_await_40 : decode cX10_await 40 = .ok (.iload 4, 2) := dk_21 4 (dk_at dksX10_await_1 16 rfl rfl)
theorem dX10_await_42 : decode cX10_await 42 = .ok (.bipush 8, 2) := dk_16 8 (dk_at dksX10_await_1 18 rfl rfl)
theorem dX10_await_44 : decode cX10_await 44 = .ok (.if_icmp .gt 42, 3) := dk_163 0 42 (dk_at dksX10_await_1 20 rfl rfl)
theorem dX10_await_47 : decode cX10_await 47 = .ok (.aload_n 0, 1) := dk_42 (dk_at dksX10_await_1 23 rfl rfl)
theorem dX10_await_48 : decode cX10_await 48 = .ok (.iload 4, 2) := dk_21 4 (dk_at dksX10_await_2 0 rfl rfl)
theorem dX10_await_50 : decode cX10_await 50 = .ok (.iload_n 1, 1) := dk_27 (dk_at dksX10_await_2 2 rfl rfl)
theorem dX10_await_51 : decode cX10_await 51 = .ok (.iload_n 2, 1) := dk_28 (dk_at dksX10_await_2 3 rfl rfl)
theorem dX10_await_52 : decode cX10_await 52 = .ok (.invokevirtual 462, 3) := dk_182 1 206 (dk_at dksX10_await_2 4 rfl rfl)
theorem dX10_await_55 : decode cX10_await 55 = .ok (.aload_n 0, 1) := dk_42 (dk_at dksX10_await_2 7 rfl rfl)
theorem dX10_await_56 : decode cX10_await 56 = .ok (.iload_n 3, 1) := dk_29 (dk_at dksX10_await_2 8 rfl rfl)
theorem dX10_await_57 : decode cX10_await 57 = .ok (.iload_n 1, 1) := dk_27 (dk_at dksX10_await_2 9 rfl rfl)
theorem dX10_await_58 : decode cX10_await 58 = .ok (.iload_n 2, 1) := dk_28 (dk_at dksX10_await_2 10 rfl rfl)
theorem dX10_await_59 : decode cX10_await 59 = .ok (.invokevirtual 462, 3) := dk_182 1 206 (dk_at dksX10_await_2 11 rfl rfl)
theorem dX10_await_62 : decode cX10_await 62 = .ok (.ldc2_w 451, 3) := dk_20 1 195 (dk_at dksX10_await_2 14 rfl rfl)
theorem dX10_await_65 : decode cX10_await 65 = .ok (.iload 4, 2) := dk_21 4 (dk_at dksX10_await_2 17 rfl rfl)
theorem dX10_await_67 : decode cX10_await 67 = .ok (.iload_n 3, 1) := dk_29 (dk_at dksX10_await_2 19 rfl rfl)
theorem dX10_await_68 : decode cX10_await 68 = .ok (.isub, 1) := dk_100 (dk_at dksX10_await_2 20 rfl rfl)
theorem dX10_await_69 : decode cX10_await 69 = .ok (.invokestatic 444, 3) := dk_184 1 188 (dk_at dksX10_await_2 21 rfl rfl)
theorem dX10_await_72 : decode cX10_await 72 = .ok (.lmul, 1) := dk_105 (dk_at dksX10_await_3 0 rfl rfl)
theorem dX10_await_73 : decode cX10_await 73 = .ok (.lcmp, 1) := dk_148 (dk_at dksX10_await_3 1 rfl rfl)
theorem dX10_await_74 : decode cX10_await 74 = .ok (.ifCond .ge 6, 3) := dk_156 0 6 (dk_at dksX10_await_3 2 rfl rfl)
theorem dX10_await_77 : decode cX10_await 77 = .ok (.iload 4, 2) := dk_21 4 (dk_at dksX10_await_3 5 rfl rfl)
theorem dX10_await_79 : decode cX10_await 79 = .ok (.istore_n 3, 1) := dk_62 (dk_at dksX10_await_3 7 rfl rfl)
theorem dX10_await_80 : decode cX10_await 80 = .ok (.iinc 4 1, 3) := dk_132 4 1 (dk_at dksX10_await_3 8 rfl rfl)
theorem dX10_await_83 : decode cX10_await 83 = .ok (.goto (-43), 3) := dk_167 255 213 (dk_at dksX10_await_3 11 rfl rfl)
theorem dX10_await_86 : decode cX10_await 86 = .ok (.iload_n 3, 1) := dk_29 (dk_at dksX10_await_3 14 rfl rfl)
theorem dX10_await_87 : decode cX10_await 87 = .ok (.ireturn, 1) := dk_172 (dk_at dksX10_await_3 15 rfl rfl)
abbrev cX10_cross : ByteArray := prog_19_method_96_code
def yX10_cross : MethodName := ⟨RX10, "cross", "(II)I"⟩
def dkwX10_cross_3 : List UInt8 := [180, 1, 212, 172]
abbrev dktX10_cross_3 : List UInt8 := dkwX10_cross_3 ++ []
def dkwX10_cross_2 : List UInt8 := [181, 1, 209, 42, 27, 3, 3, 3, 3, 182, 1, 218, 28, 154, 0, 10, 42, 180, 1, 209, 167, 0, 7, 42]
abbrev dktX10_cross_2 : List UInt8 := dkwX10_cross_2 ++ dktX10_cross_3
def dkwX10_cross_1 : List UInt8 := [153, 0, 7, 4, 167, 0, 4, 3, 4, 4, 182, 1, 19, 154, 0, 5, 3, 172, 42, 19, 1, 169]
abbrev dktX10_cross_1 : List UInt8 := dkwX10_cross_1 ++ dktX10_cross_2
def dkwX10_cross_0 : List UInt8 := [42, 3, 181, 0, 3, 42, 27, 6, 16, 6, 184, 1, 108, 153, 0, 16, 28, 3, 4, 184, 1, 108]
abbrev dktX10_cross_0 : List UInt8 := dkwX10_cross_0 ++ dktX10_cross_1
theorem dksX10_cross_0 : cX10_cross.data.toList.drop 0 = dktX10_cross_0 := by decide +kernel
theorem dksX10_cross_1 : cX10_cross.data.toList.drop 22 = dktX10_cross_1 := dk_seg dksX10_cross_0 22 rfl rfl
theorem dksX10_cross_2 : cX10_cross.data.toList.drop 44 = dktX10_cross_2 := dk_seg dksX10_cross_1 22 rfl rfl
theorem dksX10_cross_3 : cX10_cross.data.toList.drop 68 = dktX10_cross_3 := dk_seg dksX10_cross_2 24 rfl rfl
theorem dX10_cross_0 : decode cX10_cross 0 = .ok (.aload_n 0, 1) := dk_42 (dk_at dksX10_cross_0 0 rfl rfl)
theorem dX10_cross_1 : decode cX10_cross 1 = .ok (.iconst 0, 1) := dk_3 (dk_at dksX10_cross_0 1 rfl rfl)
theorem dX10_cross_2 : decode cX10_cross 2 = .ok (.putfield 3, 3) := dk_181 0 3 (dk_at dksX10_cross_0 2 rfl rfl)
theorem dX10_cross_5 : decode cX10_cross 5 = .ok (.aload_n 0, 1) := dk_42 (dk_at dksX10_cross_0 5 rfl rfl)
theorem dX10_cross_6 : decode cX10_cross 6 = .ok (.iload_n 1, 1) := dk_27 (dk_at dksX10_cross_0 6 rfl rfl)
theorem dX10_cross_7 : decode cX10_cross 7 = .ok (.iconst 3, 1) := dk_6 (dk_at dksX10_cross_0 7 rfl rfl)
theorem dX10_cross_8 : decode cX10_cross 8 = .ok (.bipush 6, 2) := dk_16 6 (dk_at dksX10_cross_0 8 rfl rfl)
theorem dX10_cross_10 : decode cX10_cross 10 = .ok (.invokestatic 364, 3) := dk_184 1 108 (dk_at dksX10_cross_0 10 rfl rfl)
theorem dX10_cross_13 : decode cX10_cross 13 = .ok (.ifCond .eq 16, 3) := dk_153 0 16 (dk_at dksX10_cross_0 13 rfl rfl)
theorem dX10_cross_16 : decode cX10_cross 16 = .ok (.iload_n 2, 1) := dk_28 (dk_at dksX10_cross_0 16 rfl rfl)
theorem dX10_cross_17 : decode cX10_cross 17 = .ok (.iconst 0, 1) := dk_3 (dk_at dksX10_cross_0 17 rfl rfl)
theorem dX10_cross_18 : decode cX10_cross 18 = .ok (.iconst 1, 1) := dk_4 (dk_at dksX10_cross_0 18 rfl rfl)
theorem dX10_cross_19 : decode cX10_cross 19 = .ok (.invokestatic 364, 3) := dk_184 1 108 (dk_at dksX10_cross_0 19 rfl rfl)
theorem dX10_cross_22 : decode cX10_cross 22 = .ok (.ifCond .eq 7, 3) := dk_153 0 7 (dk_at dksX10_cross_1 0 rfl rfl)
theorem dX10_cross_25 : decode cX10_cross 25 = .ok (.iconst 1, 1) := dk_4 (dk_at dksX10_cross_1 3 rfl rfl)
theorem dX10_cross_26 : decode cX10_cross 26 = .ok (.goto 4, 3) := dk_167 0 4 (dk_at dksX10_cross_1 4 rfl rfl)
theorem dX10_cross_29 : decode cX10_cross 29 = .ok (.iconst 0, 1) := dk_3 (dk_at dksX10_cross_1 7 rfl rfl)
theorem dX10_cross_30 : decode cX10_cross 30 = .ok (.iconst 1, 1) := dk_4 (dk_at dksX10_cross_1 8 rfl rfl)
theorem dX10_cross_31 : decode cX10_cross 31 = .ok (.iconst 1, 1) := dk_4 (dk_at dksX10_cross_1 9 rfl rfl)
theorem dX10_cross_32 : decode cX10_cross 32 = .ok (.invokevirtual 275, 3) := dk_182 1 19 (dk_at dksX10_cross_1 10 rfl rfl)
theorem dX10_cross_35 : decode cX10_cross 35 = .ok (.ifCond .ne 5, 3) := dk_154 0 5 (dk_at dksX10_cross_1 13 rfl rfl)
theorem dX10_cross_38 : decode cX10_cross 38 = .ok (.iconst 0, 1) := dk_3 (dk_at dksX10_cross_1 16 rfl rfl)
theorem dX10_cross_39 : decode cX10_cross 39 = .ok (.ireturn, 1) := dk_172 (dk_at dksX10_cross_1 17 rfl rfl)
theorem dX10_cross_40 : decode cX10_cross 40 = .ok (.aload_n 0, 1) := dk_42 (dk_at dksX10_cross_1 18 rfl rfl)
theorem dX10_cross_41 : decode cX10_cross 41 = .ok (.ldc_w 425, 3) := dk_19 1 169 (dk_at dksX10_cross_1 19 rfl rfl)
theorem dX10_cross_44 : decode cX10_cross 44 = .ok (.putfield 465, 3) := dk_181 1 209 (dk_at dksX10_cross_2 0 rfl rfl)
theorem dX10_cross_47 : decode cX10_cross 47 = .ok (.aload_n 0, 1) := dk_42 (dk_at dksX10_cross_2 3 rfl rfl)
theorem dX10_cross_48 : decode cX10_cross 48 = .ok (.iload_n 1, 1) := dk_27 (dk_at dksX10_cross_2 4 rfl rfl)
theorem dX10_cross_49 : decode cX10_cross 49 = .ok (.iconst 0, 1) := dk_3 (dk_at dksX10_cross_2 5 rfl rfl)
theorem dX10_cross_50 : decode cX10_cross 50 = .ok (.iconst 0, 1) := dk_3 (dk_at dksX10_cross_2 6 rfl rfl)
theorem dX10_cross_51 : decode cX10_cross 51 = .ok (.iconst 0, 1) := dk_3 (dk_at dksX10_cross_2 7 rfl rfl)
theorem dX10_cross_52 : decode cX10_cross 52 = .ok (.iconst 0, 1) := dk_3 (dk_at dksX10_cross_2 8 rfl rfl)
theorem dX10_cross_53 : decode cX10_cross 53 = .ok (.invokevirtual 474, 3) := dk_182 1 218 (dk_at dksX10_cross_2 9 rfl rfl)
theorem dX10_cross_56 : decode cX10_cross 56 = .ok (.iload_n 2, 1) := dk_28 (dk_at dksX10_cross_2 12 rfl rfl)
theorem dX10_cross_57 : decode cX10_cross 57 = .ok (.ifCond .ne 10, 3) := dk_154 0 10 (dk_at dksX10_cross_2 13 rfl rfl)
theorem dX10_cross_60 : decode cX10_cross 60 = .ok (.aload_n 0, 1) := dk_42 (dk_at dksX10_cross_2 16 rfl rfl)
theorem dX10_cross_61 : decode cX10_cross 61 = .ok (.getfield 465, 3) := dk_180 1 209 (dk_at dksX10_cross_2 17 rfl rfl)
theorem dX10_cross_64 : decode cX10_cross 64 = .ok (.goto 7, 3) := dk_167 0 7 (dk_at dksX10_cross_2 20 rfl rfl)
theorem dX10_cross_67 : decode cX10_cross 67 = .ok (.aload_n 0, 1) := dk_42 (dk_at dksX10_cross_2 23 rfl rfl)
theorem dX10_cross_68 : decode cX10_cross 68 = .ok (.getfield 468, 3) := dk_180 1 212 (dk_at dksX10_cross_3 0 rfl rfl)
theorem dX10_cross_71 : decode cX10_cross 71 = .ok (.ireturn, 1) := dk_172 (dk_at dksX10_cross_3 3 rfl rfl)
abbrev cX10_crossOn : ByteArray := prog_19_method_95_code
def yX10_crossOn : MethodName := ⟨RX10, "crossOn", "(IIIII)V"⟩
def dkwX10_crossOn_4 : List UInt8 := [132, 6, 1, 167, 255, 194, 177]
abbrev dktX10_crossOn_4 : List UInt8 := dkwX10_crossOn_4 ++ []
def dkwX10_crossOn_3 : List UInt8 := [3, 167, 0, 11, 42, 27, 29, 21, 6, 182, 1, 215, 96, 16, 10, 21, 5, 104, 21, 6, 96, 182, 1, 218]
abbrev dktX10_crossOn_3 : List UInt8 := dkwX10_crossOn_3 ++ dktX10_crossOn_4
def dkwX10_crossOn_2 : List UInt8 := [122, 4, 126, 154, 0, 45, 42, 27, 28, 4, 21, 6, 4, 100, 120, 128, 21, 6, 21, 4, 29, 154, 0, 7]
abbrev dktX10_crossOn_2 : List UInt8 := dkwX10_crossOn_2 ++ dktX10_crossOn_3
def dkwX10_crossOn_1 : List UInt8 := [181, 1, 209, 42, 21, 5, 181, 1, 212, 177, 4, 54, 6, 21, 6, 27, 163, 0, 62, 28, 21, 6, 4, 100]
abbrev dktX10_crossOn_1 : List UInt8 := dkwX10_crossOn_1 ++ dktX10_crossOn_2
def dkwX10_crossOn_0 : List UInt8 := [28, 4, 27, 120, 4, 100, 160, 0, 26, 21, 4, 42, 180, 1, 209, 161, 0, 4, 177, 42, 21, 4]
abbrev dktX10_crossOn_0 : List UInt8 := dkwX10_crossOn_0 ++ dktX10_crossOn_1
theorem dksX10_crossOn_0 : cX10_crossOn.data.toList.drop 0 = dktX10_crossOn_0 := by decide +kernel
theorem dksX10_crossOn_1 : cX10_crossOn.data.toList.drop 22 = dktX10_crossOn_1 := dk_seg dksX10_crossOn_0 22 rfl rfl
theorem dksX10_crossOn_2 : cX10_crossOn.data.toList.drop 46 = dktX10_crossOn_2 := dk_seg dksX10_crossOn_1 24 rfl rfl
theorem dksX10_crossOn_3 : cX10_crossOn.data.toList.drop 70 = dktX10_crossOn_3 := dk_seg dksX10_crossOn_2 24 rfl rfl
theorem dksX10_crossOn_4 : cX10_crossOn.data.toList.drop 94 = dktX10_crossOn_4 := dk_seg dksX10_crossOn_3 24 rfl rfl
theorem dX10_crossOn_0 : decode cX10_crossOn 0 = .ok (.iload_n 2, 1) := dk_28 (dk_at dksX10_crossOn_0 0 rfl rfl)
theorem dX10_crossOn_1 : decode cX10_crossOn 1 = .ok (.iconst 1, 1) := dk_4 (dk_at dksX10_crossOn_0 1 rfl rfl)
theorem dX10_crossOn_2 : decode cX10_crossOn 2 = .ok (.iload_n 1, 1) := dk_27 (dk_at dksX10_crossOn_0 2 rfl rfl)
theorem dX10_crossOn_3 : decode cX10_crossOn 3 = .ok (.ishl, 1) := dk_120 (dk_at dksX10_crossOn_0 3 rfl rfl)
theorem dX10_crossOn_4 : decode cX10_crossOn 4 = .ok (.iconst 1, 1) := dk_4 (dk_at dksX10_crossOn_0 4 rfl rfl)
theorem dX10_crossOn_5 : decode cX10_crossOn 5 = .ok (.isub, 1) := dk_100 (dk_at dksX10_crossOn_0 5 rfl rfl)
theorem dX10_crossOn_6 : decode cX10_crossOn 6 = .ok (.if_icmp .ne 26, 3) := dk_160 0 26 (dk_at dksX10_crossOn_0 6 rfl rfl)
theorem dX10_crossOn_9 : decode cX10_crossOn 9 = .ok (.iload 4, 2) := dk_21 4 (dk_at dksX10_crossOn_0 9 rfl rfl)
theorem dX10_crossOn_11 : decode cX10_crossOn 11 = .ok (.aload_n 0, 1) := dk_42 (dk_at dksX10_crossOn_0 11 rfl rfl)
theorem dX10_crossOn_12 : decode cX10_crossOn 12 = .ok (.getfield 465, 3) := dk_180 1 209 (dk_at dksX10_crossOn_0 12 rfl rfl)
theorem dX10_crossOn_15 : decode cX10_crossOn 15 = .ok (.if_icmp .lt 4, 3) := dk_161 0 4 (dk_at dksX10_crossOn_0 15 rfl rfl)
theorem dX10_crossOn_18 : decode cX10_crossOn 18 = .ok (.return_, 1) := dk_177 (dk_at dksX10_crossOn_0 18 rfl rfl)
theorem dX10_crossOn_19 : decode cX10_crossOn 19 = .ok (.aload_n 0, 1) := dk_42 (dk_at dksX10_crossOn_0 19 rfl rfl)
theorem dX10_crossOn_20 : decode cX10_crossOn 20 = .ok (.iload 4, 2) := dk_21 4 (dk_at dksX10_crossOn_0 20 rfl rfl)
theorem dX10_crossOn_22 : decode cX10_crossOn 22 = .ok (.putfield 465, 3) := dk_181 1 209 (dk_at dksX10_crossOn_1 0 rfl rfl)
theorem dX10_crossOn_25 : decode cX10_crossOn 25 = .ok (.aload_n 0, 1) := dk_42 (dk_at dksX10_crossOn_1 3 rfl rfl)
theorem dX10_crossOn_26 : decode cX10_crossOn 26 = .ok (.iload 5, 2) := dk_21 5 (dk_at dksX10_crossOn_1 4 rfl rfl)
theorem dX10_crossOn_28 : decode cX10_crossOn 28 = .ok (.putfield 468, 3) := dk_181 1 212 (dk_at dksX10_crossOn_1 6 rfl rfl)
theorem dX10_crossOn_31 : decode cX10_crossOn 31 = .ok (.return_, 1) := dk_177 (dk_at dksX10_crossOn_1 9 rfl rfl)
theorem dX10_crossOn_32 : decode cX10_crossOn 32 = .ok (.iconst 1, 1) := dk_4 (dk_at dksX10_crossOn_1 10 rfl rfl)
theorem dX10_crossOn_33 : decode cX10_crossOn 33 = .ok (.istore 6, 2) := dk_54 6 (dk_at dksX10_crossOn_1 11 rfl rfl)
theorem dX10_crossOn_35 : decode cX10_crossOn 35 = .ok (.iload 6, 2) := dk_21 6 (dk_at dksX10_crossOn_1 13 rfl rfl)
theorem dX10_crossOn_37 : decode cX10_crossOn 37 = .ok (.iload_n 1, 1) := dk_27 (dk_at dksX10_crossOn_1 15 rfl rfl)
theorem dX10_crossOn_38 : decode cX10_crossOn 38 = .ok (.if_icmp .gt 62, 3) := dk_163 0 62 (dk_at dksX10_crossOn_1 16 rfl rfl)
theorem dX10_crossOn_41 : decode cX10_crossOn 41 = .ok (.iload_n 2, 1) := dk_28 (dk_at dksX10_crossOn_1 19 rfl rfl)
theorem dX10_crossOn_42 : decode cX10_crossOn 42 = .ok (.iload 6, 2) := dk_21 6 (dk_at dksX10_crossOn_1 20 rfl rfl)
theorem dX10_crossOn_44 : decode cX10_crossOn 44 = .ok (.iconst 1, 1) := dk_4 (dk_at dksX10_crossOn_1 22 rfl rfl)
theorem dX10_crossOn_45 : decode cX10_crossOn 45 = .ok (.isub, 1) := dk_100 (dk_at dksX10_crossOn_1 23 rfl rfl)
theorem dX10_crossOn_46 : decode cX10_crossOn 46 = .ok (.ishr, 1) := dk_122 (dk_at dksX10_crossOn_2 0 rfl rfl)
theorem dX10_crossOn_47 : decode cX10_crossOn 47 = .ok (.iconst 1, 1) := dk_4 (dk_at dksX10_crossOn_2 1 rfl rfl)
theorem dX10_crossOn_48 : decode cX10_crossOn 48 = .ok (.iand, 1) := dk_126 (dk_at dksX10_crossOn_2 2 rfl rfl)
theorem dX10_crossOn_49 : decode cX10_crossOn 49 = .ok (.ifCond .ne 45, 3) := dk_154 0 45 (dk_at dksX10_crossOn_2 3 rfl rfl)
theorem dX10_crossOn_52 : decode cX10_crossOn 52 = .ok (.aload_n 0, 1) := dk_42 (dk_at dksX10_crossOn_2 6 rfl rfl)
theorem dX10_crossOn_53 : decode cX10_crossOn 53 = .ok (.iload_n 1, 1) := dk_27 (dk_at dksX10_crossOn_2 7 rfl rfl)
theorem dX10_crossOn_54 : decode cX10_crossOn 54 = .ok (.iload_n 2, 1) := dk_28 (dk_at dksX10_crossOn_2 8 rfl rfl)
theorem dX10_crossOn_55 : decode cX10_crossOn 55 = .ok (.iconst 1, 1) := dk_4 (dk_at dksX10_crossOn_2 9 rfl rfl)
theorem dX10_crossOn_56 : decode cX10_crossOn 56 = .ok (.iload 6, 2) := dk_21 6 (dk_at dksX10_crossOn_2 10 rfl rfl)
theorem dX10_crossOn_58 : decode cX10_crossOn 58 = .ok (.iconst 1, 1) := dk_4 (dk_at dksX10_crossOn_2 12 rfl rfl)
theorem dX10_crossOn_59 : decode cX10_crossOn 59 = .ok (.isub, 1) := dk_100 (dk_at dksX10_crossOn_2 13 rfl rfl)
theorem dX10_crossOn_60 : decode cX10_crossOn 60 = .ok (.ishl, 1) := dk_120 (dk_at dksX10_crossOn_2 14 rfl rfl)
theorem dX10_crossOn_61 : decode cX10_crossOn 61 = .ok (.ior, 1) := dk_128 (dk_at dksX10_crossOn_2 15 rfl rfl)
theorem dX10_crossOn_62 : decode cX10_crossOn 62 = .ok (.iload 6, 2) := dk_21 6 (dk_at dksX10_crossOn_2 16 rfl rfl)
theorem dX10_crossOn_64 : decode cX10_crossOn 64 = .ok (.iload 4, 2) := dk_21 4 (dk_at dksX10_crossOn_2 18 rfl rfl)
theorem dX10_crossOn_66 : decode cX10_crossOn 66 = .ok (.iload_n 3, 1) := dk_29 (dk_at dksX10_crossOn_2 20 rfl rfl)
theorem dX10_crossOn_67 : decode cX10_crossOn 67 = .ok (.ifCond .ne 7, 3) := dk_154 0 7 (dk_at dksX10_crossOn_2 21 rfl rfl)
theorem dX10_crossOn_70 : decode cX10_crossOn 70 = .ok (.iconst 0, 1) := dk_3 (dk_at dksX10_crossOn_3 0 rfl rfl)
theorem dX10_crossOn_71 : decode cX10_crossOn 71 = .ok (.goto 11, 3) := dk_167 0 11 (dk_at dksX10_crossOn_3 1 rfl rfl)
theorem dX10_crossOn_74 : decode cX10_crossOn 74 = .ok (.aload_n 0, 1) := dk_42 (dk_at dksX10_crossOn_3 4 rfl rfl)
theorem dX10_crossOn_75 : decode cX10_crossOn 75 = .ok (.iload_n 1, 1) := dk_27 (dk_at dksX10_crossOn_3 5 rfl rfl)
theorem dX10_crossOn_76 : decode cX10_crossOn 76 = .ok (.iload_n 3, 1) := dk_29 (dk_at dksX10_crossOn_3 6 rfl rfl)
theorem dX10_crossOn_77 : decode cX10_crossOn 77 = .ok (.iload 6, 2) := dk_21 6 (dk_at dksX10_crossOn_3 7 rfl rfl)
theorem dX10_crossOn_79 : decode cX10_crossOn 79 = .ok (.invokevirtual 471, 3) := dk_182 1 215 (dk_at dksX10_crossOn_3 9 rfl rfl)
theorem dX10_crossOn_82 : decode cX10_crossOn 82 = .ok (.iadd, 1) := dk_96 (dk_at dksX10_crossOn_3 12 rfl rfl)
theorem dX10_crossOn_83 : decode cX10_crossOn 83 = .ok (.bipush 10, 2) := dk_16 10 (dk_at dksX10_crossOn_3 13 rfl rfl)
theorem dX10_crossOn_85 : decode cX10_crossOn 85 = .ok (.iload 5, 2) := dk_21 5 (dk_at dksX10_crossOn_3 15 rfl rfl)
theorem dX10_crossOn_87 : decode cX10_crossOn 87 = .ok (.imul, 1) := dk_104 (dk_at dksX10_crossOn_3 17 rfl rfl)
theorem dX10_crossOn_88 : decode cX10_crossOn 88 = .ok (.iload 6, 2) := dk_21 6 (dk_at dksX10_crossOn_3 18 rfl rfl)
theorem dX10_crossOn_90 : decode cX10_crossOn 90 = .ok (.iadd, 1) := dk_96 (dk_at dksX10_crossOn_3 20 rfl rfl)
theorem dX10_crossOn_91 : decode cX10_crossOn 91 = .ok (.invokevirtual 474, 3) := dk_182 1 218 (dk_at dksX10_crossOn_3 21 rfl rfl)
theorem dX10_crossOn_94 : decode cX10_crossOn 94 = .ok (.iinc 6 1, 3) := dk_132 6 1 (dk_at dksX10_crossOn_4 0 rfl rfl)
theorem dX10_crossOn_97 : decode cX10_crossOn 97 = .ok (.goto (-62), 3) := dk_167 255 194 (dk_at dksX10_crossOn_4 3 rfl rfl)
theorem dX10_crossOn_100 : decode cX10_crossOn 100 = .ok (.return_, 1) := dk_177 (dk_at dksX10_crossOn_4 6 rfl rfl)
abbrev cX10_crookedBy : ByteArray := prog_19_method_94_code
def yX10_crookedBy : MethodName := ⟨RX10, "crookedBy", "(III)I"⟩
def dkwX10_crookedBy_2 : List UInt8 := [108, 21, 5, 100, 167, 0, 4, 3, 172]
abbrev dktX10_crookedBy_2 : List UInt8 := dkwX10_crookedBy_2 ++ []
def dkwX10_crookedBy_1 : List UInt8 := [162, 0, 8, 21, 4, 167, 0, 7, 27, 21, 4, 100, 54, 5, 27, 5, 108, 21, 5, 164, 0, 12, 27, 5]
abbrev dktX10_crookedBy_1 : List UInt8 := dkwX10_crookedBy_1 ++ dktX10_crookedBy_2
def dkwX10_crookedBy_0 : List UInt8 := [28, 29, 162, 0, 9, 29, 28, 100, 167, 0, 6, 28, 29, 100, 54, 4, 21, 4, 27, 21, 4, 100]
abbrev dktX10_crookedBy_0 : List UInt8 := dkwX10_crookedBy_0 ++ dktX10_crookedBy_1
theorem dksX10_crookedBy_0 : cX10_crookedBy.data.toList.drop 0 = dktX10_crookedBy_0 := by decide +kernel
theorem dksX10_crookedBy_1 : cX10_crookedBy.data.toList.drop 22 = dktX10_crookedBy_1 := dk_seg dksX10_crookedBy_0 22 rfl rfl
theorem dksX10_crookedBy_2 : cX10_crookedBy.data.toList.drop 46 = dktX10_crookedBy_2 := dk_seg dksX10_crookedBy_1 24 rfl rfl
theorem dX10_crookedBy_0 : decode cX10_crookedBy 0 = .ok (.iload_n 2, 1) := dk_28 (dk_at dksX10_crookedBy_0 0 rfl rfl)
theorem dX10_crookedBy_1 : decode cX10_crookedBy 1 = .ok (.iload_n 3, 1) := dk_29 (dk_at dksX10_crookedBy_0 1 rfl rfl)
theorem dX10_crookedBy_2 : decode cX10_crookedBy 2 = .ok (.if_icmp .ge 9, 3) := dk_162 0 9 (dk_at dksX10_crookedBy_0 2 rfl rfl)
theorem dX10_crookedBy_5 : decode cX10_crookedBy 5 = .ok (.iload_n 3, 1) := dk_29 (dk_at dksX10_crookedBy_0 5 rfl rfl)
theorem dX10_crookedBy_6 : decode cX10_crookedBy 6 = .ok (.iload_n 2, 1) := dk_28 (dk_at dksX10_crookedBy_0 6 rfl rfl)
theorem dX10_crookedBy_7 : decode cX10_crookedBy 7 = .ok (.isub, 1) := dk_100 (dk_at dksX10_crookedBy_0 7 rfl rfl)
theorem dX10_crookedBy_8 : decode cX10_crookedBy 8 = .ok (.goto 6, 3) := dk_167 0 6 (dk_at dksX10_crookedBy_0 8 rfl rfl)
theorem dX10_crookedBy_11 : decode cX10_crookedBy 11 = .ok (.iload_n 2, 1) := dk_28 (dk_at dksX10_crookedBy_0 11 rfl rfl)
theorem dX10_crookedBy_12 : decode cX10_crookedBy 12 = .ok (.iload_n 3, 1) := dk_29 (dk_at dksX10_crookedBy_0 12 rfl rfl)
theorem dX10_crookedBy_13 : decode cX10_crookedBy 13 = .ok (.isub, 1) := dk_100 (dk_at dksX10_crookedBy_0 13 rfl rfl)
theorem dX10_crookedBy_14 : decode cX10_crookedBy 14 = .ok (.istore 4, 2) := dk_54 4 (dk_at dksX10_crookedBy_0 14 rfl rfl)
theorem dX10_crookedBy_16 : decode cX10_crookedBy 16 = .ok (.iload 4, 2) := dk_21 4 (dk_at dksX10_crookedBy_0 16 rfl rfl)
theorem dX10_crookedBy_18 : decode cX10_crookedBy 18 = .ok (.iload_n 1, 1) := dk_27 (dk_at dksX10_crookedBy_0 18 rfl rfl)
theorem dX10_crookedBy_19 : decode cX10_crookedBy 19 = .ok (.iload 4, 2) := dk_21 4 (dk_at dksX10_crookedBy_0 19 rfl rfl)
theorem dX10_crookedBy_21 : decode cX10_crookedBy 21 = .ok (.isub, 1) := dk_100 (dk_at dksX10_crookedBy_0 21 rfl rfl)
theorem dX10_crookedBy_22 : decode cX10_crookedBy 22 = .ok (.if_icmp .ge 8, 3) := dk_162 0 8 (dk_at dksX10_crookedBy_1 0 rfl rfl)
theorem dX10_crookedBy_25 : decode cX10_crookedBy 25 = .ok (.iload 4, 2) := dk_21 4 (dk_at dksX10_crookedBy_1 3 rfl rfl)
theorem dX10_crookedBy_27 : decode cX10_crookedBy 27 = .ok (.goto 7, 3) := dk_167 0 7 (dk_at dksX10_crookedBy_1 5 rfl rfl)
theorem dX10_crookedBy_30 : decode cX10_crookedBy 30 = .ok (.iload_n 1, 1) := dk_27 (dk_at dksX10_crookedBy_1 8 rfl rfl)
theorem dX10_crookedBy_31 : decode cX10_crookedBy 31 = .ok (.iload 4, 2) := dk_21 4 (dk_at dksX10_crookedBy_1 9 rfl rfl)
theorem dX10_crookedBy_33 : decode cX10_crookedBy 33 = .ok (.isub, 1) := dk_100 (dk_at dksX10_crookedBy_1 11 rfl rfl)
theorem dX10_crookedBy_34 : decode cX10_crookedBy 34 = .ok (.istore 5, 2) := dk_54 5 (dk_at dksX10_crookedBy_1 12 rfl rfl)
theorem dX10_crookedBy_36 : decode cX10_crookedBy 36 = .ok (.iload_n 1, 1) := dk_27 (dk_at dksX10_crookedBy_1 14 rfl rfl)
theorem dX10_crookedBy_37 : decode cX10_crookedBy 37 = .ok (.iconst 2, 1) := dk_5 (dk_at dksX10_crookedBy_1 15 rfl rfl)
theorem dX10_crookedBy_38 : decode cX10_crookedBy 38 = .ok (.idiv, 1) := dk_108 (dk_at dksX10_crookedBy_1 16 rfl rfl)
theorem dX10_crookedBy_39 : decode cX10_crookedBy 39 = .ok (.iload 5, 2) := dk_21 5 (dk_at dksX10_crookedBy_1 17 rfl rfl)
theorem dX10_crookedBy_41 : decode cX10_crookedBy 41 = .ok (.if_icmp .le 12, 3) := dk_164 0 12 (dk_at dksX10_crookedBy_1 19 rfl rfl)
theorem dX10_crookedBy_44 : decode cX10_crookedBy 44 = .ok (.iload_n 1, 1) := dk_27 (dk_at dksX10_crookedBy_1 22 rfl rfl)
theorem dX10_crookedBy_45 : decode cX10_crookedBy 45 = .ok (.iconst 2, 1) := dk_5 (dk_at dksX10_crookedBy_1 23 rfl rfl)
theorem dX10_crookedBy_46 : decode cX10_crookedBy 46 = .ok (.idiv, 1) := dk_108 (dk_at dksX10_crookedBy_2 0 rfl rfl)
theorem dX10_crookedBy_47 : decode cX10_crookedBy 47 = .ok (.iload 5, 2) := dk_21 5 (dk_at dksX10_crookedBy_2 1 rfl rfl)
theorem dX10_crookedBy_49 : decode cX10_crookedBy 49 = .ok (.isub, 1) := dk_100 (dk_at dksX10_crookedBy_2 3 rfl rfl)
theorem dX10_crookedBy_50 : decode cX10_crookedBy 50 = .ok (.goto 4, 3) := dk_167 0 4 (dk_at dksX10_crookedBy_2 4 rfl rfl)
theorem dX10_crookedBy_53 : decode cX10_crookedBy 53 = .ok (.iconst 0, 1) := dk_3 (dk_at dksX10_crookedBy_2 7 rfl rfl)
theorem dX10_crookedBy_54 : decode cX10_crookedBy 54 = .ok (.ireturn, 1) := dk_172 (dk_at dksX10_crookedBy_2 8 rfl rfl)
abbrev cX10_crooked : ByteArray := prog_19_method_97_code
def yX10_crooked : MethodName := ⟨RX10, "crooked", "(I)I"⟩
def dkwX10_crooked_7 : List UInt8 := [54, 5, 21, 6, 16, 10, 108, 54, 6, 167, 255, 219, 21, 5, 172]
abbrev dktX10_crooked_7 : List UInt8 := dkwX10_crooked_7 ++ []
def dkwX10_crooked_6 : List UInt8 := [164, 0, 36, 21, 5, 42, 28, 21, 6, 16, 10, 108, 16, 10, 112, 21, 6, 16, 10, 112, 182, 1, 215, 96]
abbrev dktX10_crooked_6 : List UInt8 := dkwX10_crooked_6 ++ dktX10_crooked_7
def dkwX10_crooked_5 : List UInt8 := [167, 0, 4, 3, 4, 4, 182, 1, 19, 154, 0, 5, 3, 172, 3, 54, 5, 27, 54, 6, 21, 6, 16, 9]
abbrev dktX10_crooked_5 : List UInt8 := dkwX10_crooked_5 ++ dktX10_crooked_6
def dkwX10_crooked_4 : List UInt8 := [28, 6, 16, 6, 184, 1, 108, 153, 0, 18, 29, 4, 28, 4, 96, 120, 5, 100, 160, 0, 7, 4]
abbrev dktX10_crooked_4 : List UInt8 := dkwX10_crooked_4 ++ dktX10_crooked_5
def dkwX10_crooked_3 : List UInt8 := [21, 6, 120, 128, 62, 132, 2, 1, 21, 5, 16, 10, 108, 54, 5, 167, 255, 201, 42, 21, 4, 153, 0, 28]
abbrev dktX10_crooked_3 : List UInt8 := dkwX10_crooked_3 ++ dktX10_crooked_4
def dkwX10_crooked_2 : List UInt8 := [21, 6, 158, 0, 16, 29, 21, 6, 122, 4, 126, 154, 0, 7, 4, 167, 0, 4, 3, 54, 4, 29, 4]
abbrev dktX10_crooked_2 : List UInt8 := dkwX10_crooked_2 ++ dktX10_crooked_3
def dkwX10_crooked_1 : List UInt8 := [3, 54, 4, 27, 54, 5, 21, 5, 158, 0, 56, 21, 4, 153, 0, 51, 21, 5, 16, 10, 112, 54, 6]
abbrev dktX10_crooked_1 : List UInt8 := dkwX10_crooked_1 ++ dktX10_crooked_2
def dkwX10_crooked_0 : List UInt8 := [42, 3, 181, 0, 3, 3, 61, 3, 62, 27, 158, 0, 14, 27, 19, 1, 222, 163, 0, 7, 4, 167, 0, 4]
abbrev dktX10_crooked_0 : List UInt8 := dkwX10_crooked_0 ++ dktX10_crooked_1
theorem dksX10_crooked_0 : cX10_crooked.data.toList.drop 0 = dktX10_crooked_0 := by decide +kernel
theorem dksX10_crooked_1 : cX10_crooked.data.toList.drop 24 = dktX10_crooked_1 := dk_seg dksX10_crooked_0 24 rfl rfl
theorem dksX10_crooked_2 : cX10_crooked.data.toList.drop 47 = dktX10_crooked_2 := dk_seg dksX10_crooked_1 23 rfl rfl
theorem dksX10_crooked_3 : cX10_crooked.data.toList.drop 70 = dktX10_crooked_3 := dk_seg dksX10_crooked_2 23 rfl rfl
theorem dksX10_crooked_4 : cX10_crooked.data.toList.drop 94 = dktX10_crooked_4 := dk_seg dksX10_crooked_3 24 rfl rfl
theorem dksX10_crooked_5 : cX10_crooked.data.toList.drop 116 = dktX10_crooked_5 := dk_seg dksX10_crooked_4 22 rfl rfl
theorem dksX10_crooked_6 : cX10_crooked.data.toList.drop 140 = dktX10_crooked_6 := dk_seg dksX10_crooked_5 24 rfl rfl
theorem dksX10_crooked_7 : cX10_crooked.data.toList.drop 164 = dktX10_crooked_7 := dk_seg dksX10_crooked_6 24 rfl rfl
theorem dX10_crooked_0 : decode cX10_crooked 0 = .ok (.aload_n 0, 1) := dk_42 (dk_at dksX10_crooked_0 0 rfl rfl)
theorem dX10_crooked_1 : decode cX10_crooked 1 = .ok (.iconst 0, 1) := dk_3 (dk_at dksX10_crooked_0 1 rfl rfl)
theorem dX10_crooked_2 : decode cX10_crooked 2 = .ok (.putfield 3, 3) := dk_181 0 3 (dk_at dksX10_crooked_0 2 rfl rfl)
theorem dX10_crooked_5 : decode cX10_crooked 5 = .ok (.iconst 0, 1) := dk_3 (dk_at dksX10_crooked_0 5 rfl rfl)
theorem dX10_crooked_6 : decode cX10_crooked 6 = .ok (.istore_n 2, 1) := dk_61 (dk_at dksX10_crooked_0 6 rfl rfl)
theorem dX10_crooked_7 : decode cX10_crooked 7 = .ok (.iconst 0, 1) := dk_3 (dk_at dksX10_crooked_0 7 rfl rfl)
theorem dX10_crooked_8 : decode cX10_crooked 8 = .ok (.istore_n 3, 1) := dk_62 (dk_at dksX10_crooked_0 8 rfl rfl)
theorem dX10_crooked_9 : decode cX10_crooked 9 = .ok (.iload_n 1, 1) := dk_27 (dk_at dksX10_crooked_0 9 rfl rfl)
theorem dX10_crooked_10 : decode cX10_crooked 10 = .ok (.ifCond .le 14, 3) := dk_158 0 14 (dk_at dksX10_crooked_0 10 rfl rfl)
theorem dX10_crooked_13 : decode cX10_crooked 13 = .ok (.iload_n 1, 1) := dk_27 (dk_at dksX10_crooked_0 13 rfl rfl)
theorem dX10_crooked_14 : decode cX10_crooked 14 = .ok (.ldc_w 478, 3) := dk_19 1 222 (dk_at dksX10_crooked_0 14 rfl rfl)
theorem dX10_crooked_17 : decode cX10_crooked 17 = .ok (.if_icmp .gt 7, 3) := dk_163 0 7 (dk_at dksX10_crooked_0 17 rfl rfl)
theorem dX10_crooked_20 : decode cX10_crooked 20 = .ok (.iconst 1, 1) := dk_4 (dk_at dksX10_crooked_0 20 rfl rfl)
theorem dX10_crooked_21 : decode cX10_crooked 21 = .ok (.goto 4, 3) := dk_167 0 4 (dk_at dksX10_crooked_0 21 rfl rfl)
theorem dX10_crooked_24 : decode cX10_crooked 24 = .ok (.iconst 0, 1) := dk_3 (dk_at dksX10_crooked_1 0 rfl rfl)
theorem dX10_crooked_25 : decode cX10_crooked 25 = .ok (.istore 4, 2) := dk_54 4 (dk_at dksX10_crooked_1 1 rfl rfl)
theorem dX10_crooked_27 : decode cX10_crooked 27 = .ok (.iload_n 1, 1) := dk_27 (dk_at dksX10_crooked_1 3 rfl rfl)
theorem dX10_crooked_28 : decode cX10_crooked 28 = .ok (.istore 5, 2) := dk_54 5 (dk_at dksX10_crooked_1 4 rfl rfl)
theorem dX10_crooked_30 : decode cX10_crooked 30 = .ok (.iload 5, 2) := dk_21 5 (dk_at dksX10_crooked_1 6 rfl rfl)
theorem dX10_crooked_32 : decode cX10_crooked 32 = .ok (.ifCond .le 56, 3) := dk_158 0 56 (dk_at dksX10_crooked_1 8 rfl rfl)
theorem dX10_crooked_35 : decode cX10_crooked 35 = .ok (.iload 4, 2) := dk_21 4 (dk_at dksX10_crooked_1 11 rfl rfl)
theorem dX10_crooked_37 : decode cX10_crooked 37 = .ok (.ifCond .eq 51, 3) := dk_153 0 51 (dk_at dksX10_crooked_1 13 rfl rfl)
theorem dX10_crooked_40 : decode cX10_crooked 40 = .ok (.iload 5, 2) := dk_21 5 (dk_at dksX10_crooked_1 16 rfl rfl)
theorem dX10_crooked_42 : decode cX10_crooked 42 = .ok (.bipush 10, 2) := dk_16 10 (dk_at dksX10_crooked_1 18 rfl rfl)
theorem dX10_crooked_44 : decode cX10_crooked 44 = .ok (.irem, 1) := dk_112 (dk_at dksX10_crooked_1 20 rfl rfl)
theorem dX10_crooked_45 : decode cX10_crooked 45 = .ok (.istore 6, 2) := dk_54 6 (dk_at dksX10_crooked_1 21 rfl rfl)
theorem dX10_crooked_47 : decode cX10_crooked 47 = .ok (.iload 6, 2) := dk_21 6 (dk_at dksX10_crooked_2 0 rfl rfl)
theorem dX10_crooked_49 : decode cX10_crooked 49 = .ok (.ifCond .le 16, 3) := dk_158 0 16 (dk_at dksX10_crooked_2 2 rfl rfl)
theorem dX10_crooked_52 : decode cX10_crooked 52 = .ok (.iload_n 3, 1) := dk_29 (dk_at dksX10_crooked_2 5 rfl rfl)
theorem dX10_crooked_53 : decode cX10_crooked 53 = .ok (.iload 6, 2) := dk_21 6 (dk_at dksX10_crooked_2 6 rfl rfl)
theorem dX10_crooked_55 : decode cX10_crooked 55 = .ok (.ishr, 1) := dk_122 (dk_at dksX10_crooked_2 8 rfl rfl)
theorem dX10_crooked_56 : decode cX10_crooked 56 = .ok (.iconst 1, 1) := dk_4 (dk_at dksX10_crooked_2 9 rfl rfl)
theorem dX10_crooked_57 : decode cX10_crooked 57 = .ok (.iand, 1) := dk_126 (dk_at dksX10_crooked_2 10 rfl rfl)
theorem dX10_crooked_58 : decode cX10_crooked 58 = .ok (.ifCond .ne 7, 3) := dk_154 0 7 (dk_at dksX10_crooked_2 11 rfl rfl)
theorem dX10_crooked_61 : decode cX10_crooked 61 = .ok (.iconst 1, 1) := dk_4 (dk_at dksX10_crooked_2 14 rfl rfl)
theorem dX10_crooked_62 : decode cX10_crooked 62 = .ok (.goto 4, 3) := dk_167 0 4 (dk_at dksX10_crooked_2 15 rfl rfl)
theorem dX10_crooked_65 : decode cX10_crooked 65 = .ok (.iconst 0, 1) := dk_3 (dk_at dksX10_crooked_2 18 rfl rfl)
theorem dX10_crooked_66 : decode cX10_crooked 66 = .ok (.istore 4, 2) := dk_54 4 (dk_at dksX10_crooked_2 19 rfl rfl)
theorem dX10_crooked_68 : decode cX10_crooked 68 = .ok (.iload_n 3, 1) := dk_29 (dk_at dksX10_crooked_2 21 rfl rfl)
theorem dX10_crooked_69 : decode cX10_crooked 69 = .ok (.iconst 1, 1) := dk_4 (dk_at dksX10_crooked_2 22 rfl rfl)
theorem dX10_crooked_70 : decode cX10_crooked 70 = .ok (.iload 6, 2) := dk_21 6 (dk_at dksX10_crooked_3 0 rfl rfl)
theorem dX10_crooked_72 : decode cX10_crooked 72 = .ok (.ishl, 1) := dk_120 (dk_at dksX10_crooked_3 2 rfl rfl)
theorem dX10_crooked_73 : decode cX10_crooked 73 = .ok (.ior, 1) := dk_128 (dk_at dksX10_crooked_3 3 rfl rfl)
theorem dX10_crooked_74 : decode cX10_crooked 74 = .ok (.istore_n 3, 1) := dk_62 (dk_at dksX10_crooked_3 4 rfl rfl)
theorem dX10_crooked_75 : decode cX10_crooked 75 = .ok (.iinc 2 1, 3) := dk_132 2 1 (dk_at dksX10_crooked_3 5 rfl rfl)
theorem dX10_crooked_78 : decode cX10_crooked 78 = .ok (.iload 5, 2) := dk_21 5 (dk_at dksX10_crooked_3 8 rfl rfl)
theorem dX10_crooked_80 : decode cX10_crooked 80 = .ok (.bipush 10, 2) := dk_16 10 (dk_at dksX10_crooked_3 10 rfl rfl)
theorem dX10_crooked_82 : decode cX10_crooked 82 = .ok (.idiv, 1) := dk_108 (dk_at dksX10_crooked_3 12 rfl rfl)
theorem dX10_crooked_83 : decode cX10_crooked 83 = .ok (.istore 5, 2) := dk_54 5 (dk_at dksX10_crooked_3 13 rfl rfl)
theorem dX10_crooked_85 : decode cX10_crooked 85 = .ok (.goto (-55), 3) := dk_167 255 201 (dk_at dksX10_crooked_3 15 rfl rfl)
theorem dX10_crooked_88 : decode cX10_crooked 88 = .ok (.aload_n 0, 1) := dk_42 (dk_at dksX10_crooked_3 18 rfl rfl)
theorem dX10_crooked_89 : decode cX10_crooked 89 = .ok (.iload 4, 2) := dk_21 4 (dk_at dksX10_crooked_3 19 rfl rfl)
theorem dX10_crooked_91 : decode cX10_crooked 91 = .ok (.ifCond .eq 28, 3) := dk_153 0 28 (dk_at dksX10_crooked_3 21 rfl rfl)
theorem dX10_crooked_94 : decode cX10_crooked 94 = .ok (.iload_n 2, 1) := dk_28 (dk_at dksX10_crooked_4 0 rfl rfl)
theorem dX10_crooked_95 : decode cX10_crooked 95 = .ok (.iconst 3, 1) := dk_6 (dk_at dksX10_crooked_4 1 rfl rfl)
theorem dX10_crooked_96 : decode cX10_crooked 96 = .ok (.bipush 6, 2) := dk_16 6 (dk_at dksX10_crooked_4 2 rfl rfl)
theorem dX10_crooked_98 : decode cX10_crooked 98 = .ok (.invokestatic 364, 3) := dk_184 1 108 (dk_at dksX10_crooked_4 4 rfl rfl)
theorem dX10_crooked_101 : decode cX10_crooked 101 = .ok (.ifCond .eq 18, 3) := dk_153 0 18 (dk_at dksX10_crooked_4 7 rfl rfl)
theorem dX10_crooked_104 : decode cX10_crooked 104 = .ok (.iload_n 3, 1) := dk_29 (dk_at dksX10_crooked_4 10 rfl rfl)
theorem dX10_crooked_105 : decode cX10_crooked 105 = .ok (.iconst 1, 1) := dk_4 (dk_at dksX10_crooked_4 11 rfl rfl)
theorem dX10_crooked_106 : decode cX10_crooked 106 = .ok (.iload_n 2, 1) := dk_28 (dk_at dksX10_crooked_4 12 rfl rfl)
theorem dX10_crooked_107 : decode cX10_crooked 107 = .ok (.iconst 1, 1) := dk_4 (dk_at dksX10_crooked_4 13 rfl rfl)
theorem dX10_crooked_108 : decode cX10_crooked 108 = .ok (.iadd, 1) := dk_96 (dk_at dksX10_crooked_4 14 rfl rfl)
theorem dX10_crooked_109 : decode cX10_crooked 109 = .ok (.ishl, 1) := dk_120 (dk_at dksX10_crooked_4 15 rfl rfl)
theorem dX10_crooked_110 : decode cX10_crooked 110 = .ok (.iconst 2, 1) := dk_5 (dk_at dksX10_crooked_4 16 rfl rfl)
theorem dX10_crooked_111 : decode cX10_crooked 111 = .ok (.isub, 1) := dk_100 (dk_at dksX10_crooked_4 17 rfl rfl)
theorem dX10_crooked_112 : decode cX10_crooked 112 = .ok (.if_icmp .ne 7, 3) := dk_160 0 7 (dk_at dksX10_crooked_4 18 rfl rfl)
theorem dX10_crooked_115 : decode cX10_crooked 115 = .ok (.iconst 1, 1) := dk_4 (dk_at dksX10_crooked_4 21 rfl rfl)
theorem dX10_crooked_116 : decode cX10_crooked 116 = .ok (.goto 4, 3) := dk_167 0 4 (dk_at dksX10_crooked_5 0 rfl rfl)
theorem dX10_crooked_119 : decode cX10_crooked 119 = .ok (.iconst 0, 1) := dk_3 (dk_at dksX10_crooked_5 3 rfl rfl)
theorem dX10_crooked_120 : decode cX10_crooked 120 = .ok (.iconst 1, 1) := dk_4 (dk_at dksX10_crooked_5 4 rfl rfl)
theorem dX10_crooked_121 : decode cX10_crooked 121 = .ok (.iconst 1, 1) := dk_4 (dk_at dksX10_crooked_5 5 rfl rfl)
theorem dX10_crooked_122 : decode cX10_crooked 122 = .ok (.invokevirtual 275, 3) := dk_182 1 19 (dk_at dksX10_crooked_5 6 rfl rfl)
theorem dX10_crooked_125 : decode cX10_crooked 125 = .ok (.ifCond .ne 5, 3) := dk_154 0 5 (dk_at dksX10_crooked_5 9 rfl rfl)
theorem dX10_crooked_128 : decode cX10_crooked 128 = .ok (.iconst 0, 1) := dk_3 (dk_at dksX10_crooked_5 12 rfl rfl)
theorem dX10_crooked_129 : decode cX10_crooked 129 = .ok (.ireturn, 1) := dk_172 (dk_at dksX10_crooked_5 13 rfl rfl)
theorem dX10_crooked_130 : decode cX10_crooked 130 = .ok (.iconst 0, 1) := dk_3 (dk_at dksX10_crooked_5 14 rfl rfl)
theorem dX10_crooked_131 : decode cX10_crooked 131 = .ok (.istore 5, 2) := dk_54 5 (dk_at dksX10_crooked_5 15 rfl rfl)
theorem dX10_crooked_133 : decode cX10_crooked 133 = .ok (.iload_n 1, 1) := dk_27 (dk_at dksX10_crooked_5 17 rfl rfl)
theorem dX10_crooked_134 : decode cX10_crooked 134 = .ok (.istore 6, 2) := dk_54 6 (dk_at dksX10_crooked_5 18 rfl rfl)
theorem dX10_crooked_136 : decode cX10_crooked 136 = .ok (.iload 6, 2) := dk_21 6 (dk_at dksX10_crooked_5 20 rfl rfl)
theorem dX10_crooked_138 : decode cX10_crooked 138 = .ok (.bipush 9, 2) := dk_16 9 (dk_at dksX10_crooked_5 22 rfl rfl)
theorem dX10_crooked_140 : decode cX10_crooked 140 = .ok (.if_icmp .le 36, 3) := dk_164 0 36 (dk_at dksX10_crooked_6 0 rfl rfl)
theorem dX10_crooked_143 : decode cX10_crooked 143 = .ok (.iload 5, 2) := dk_21 5 (dk_at dksX10_crooked_6 3 rfl rfl)
theorem dX10_crooked_145 : decode cX10_crooked 145 = .ok (.aload_n 0, 1) := dk_42 (dk_at dksX10_crooked_6 5 rfl rfl)
theorem dX10_crooked_146 : decode cX10_crooked 146 = .ok (.iload_n 2, 1) := dk_28 (dk_at dksX10_crooked_6 6 rfl rfl)
theorem dX10_crooked_147 : decode cX10_crooked 147 = .ok (.iload 6, 2) := dk_21 6 (dk_at dksX10_crooked_6 7 rfl rfl)
theorem dX10_crooked_149 : decode cX10_crooked 149 = .ok (.bipush 10, 2) := dk_16 10 (dk_at dksX10_crooked_6 9 rfl rfl)
theorem dX10_crooked_151 : decode cX10_crooked 151 = .ok (.idiv, 1) := dk_108 (dk_at dksX10_crooked_6 11 rfl rfl)
theorem dX10_crooked_152 : decode cX10_crooked 152 = .ok (.bipush 10, 2) := dk_16 10 (dk_at dksX10_crooked_6 12 rfl rfl)
theorem dX10_crooked_154 : decode cX10_crooked 154 = .ok (.irem, 1) := dk_112 (dk_at dksX10_crooked_6 14 rfl rfl)
theorem dX10_crooked_155 : decode cX10_crooked 155 = .ok (.iload 6, 2) := dk_21 6 (dk_at dksX10_crooked_6 15 rfl rfl)
theorem dX10_crooked_157 : decode cX10_crooked 157 = .ok (.bipush 10, 2) := dk_16 10 (dk_at dksX10_crooked_6 17 rfl rfl)
theorem dX10_crooked_159 : decode cX10_crooked 159 = .ok (.irem, 1) := dk_112 (dk_at dksX10_crooked_6 19 rfl rfl)
theorem dX10_crooked_160 : decode cX10_crooked 160 = .ok (.invokevirtual 471, 3) := dk_182 1 215 (dk_at dksX10_crooked_6 20 rfl rfl)
theorem dX10_crooked_163 : decode cX10_crooked 163 = .ok (.iadd, 1) := dk_96 (dk_at dksX10_crooked_6 23 rfl rfl)
theorem dX10_crooked_164 : decode cX10_crooked 164 = .ok (.istore 5, 2) := dk_54 5 (dk_at dksX10_crooked_7 0 rfl rfl)
theorem dX10_crooked_166 : decode cX10_crooked 166 = .ok (.iload 6, 2) := dk_21 6 (dk_at dksX10_crooked_7 2 rfl rfl)
theorem dX10_crooked_168 : decode cX10_crooked 168 = .ok (.bipush 10, 2) := dk_16 10 (dk_at dksX10_crooked_7 4 rfl rfl)
theorem dX10_crooked_170 : decode cX10_crooked 170 = .ok (.idiv, 1) := dk_108 (dk_at dksX10_crooked_7 6 rfl rfl)
theorem dX10_crooked_171 : decode cX10_crooked 171 = .ok (.istore 6, 2) := dk_54 6 (dk_at dksX10_crooked_7 7 rfl rfl)
theorem dX10_crooked_173 : decode cX10_crooked 173 = .ok (.goto (-37), 3) := dk_167 255 219 (dk_at dksX10_crooked_7 9 rfl rfl)
theorem dX10_crooked_176 : decode cX10_crooked 176 = .ok (.iload 5, 2) := dk_21 5 (dk_at dksX10_crooked_7 12 rfl rfl)
theorem dX10_crooked_178 : decode cX10_crooked 178 = .ok (.ireturn, 1) := dk_172 (dk_at dksX10_crooked_7 14 rfl rfl)
abbrev cX10_share : ByteArray := prog_19_method_98_code
def yX10_share : MethodName := ⟨RX10, "share", "(I)I"⟩
def dkwX10_share_1 : List UInt8 := [16, 16, 27, 100, 7, 108, 172]
abbrev dktX10_share_1 : List UInt8 := dkwX10_share_1 ++ []
def dkwX10_share_0 : List UInt8 := [42, 3, 181, 0, 3, 42, 27, 3, 16, 12, 184, 1, 108, 4, 4, 182, 1, 19, 154, 0, 5, 3, 172]
abbrev dktX10_share_0 : List UInt8 := dkwX10_share_0 ++ dktX10_share_1
theorem dksX10_share_0 : cX10_share.data.toList.drop 0 = dktX10_share_0 := by decide +kernel
theorem dksX10_share_1 : cX10_share.data.toList.drop 23 = dktX10_share_1 := dk_seg dksX10_share_0 23 rfl rfl
theorem dX10_share_0 : decode cX10_share 0 = .ok (.aload_n 0, 1) := dk_42 (dk_at dksX10_share_0 0 rfl rfl)
theorem dX10_share_1 : decode cX10_share 1 = .ok (.iconst 0, 1) := dk_3 (dk_at dksX10_share_0 1 rfl rfl)
theorem dX10_share_2 : decode cX10_share 2 = .ok (.putfield 3, 3) := dk_181 0 3 (dk_at dksX10_share_0 2 rfl rfl)
theorem dX10_share_5 : decode cX10_share 5 = .ok (.aload_n 0, 1) := dk_42 (dk_at dksX10_share_0 5 rfl rfl)
theorem dX10_share_6 : decode cX10_share 6 = .ok (.iload_n 1, 1) := dk_27 (dk_at dksX10_share_0 6 rfl rfl)
theorem dX10_share_7 : decode cX10_share 7 = .ok (.iconst 0, 1) := dk_3 (dk_at dksX10_share_0 7 rfl rfl)
theorem dX10_share_8 : decode cX10_share 8 = .ok (.bipush 12, 2) := dk_16 12 (dk_at dksX10_share_0 8 rfl rfl)
theorem dX10_share_10 : decode cX10_share 10 = .ok (.invokestatic 364, 3) := dk_184 1 108 (dk_at dksX10_share_0 10 rfl rfl)
theorem dX10_share_13 : decode cX10_share 13 = .ok (.iconst 1, 1) := dk_4 (dk_at dksX10_share_0 13 rfl rfl)
theorem dX10_share_14 : decode cX10_share 14 = .ok (.iconst 1, 1) := dk_4 (dk_at dksX10_share_0 14 rfl rfl)
theorem dX10_share_15 : decode cX10_share 15 = .ok (.invokevirtual 275, 3) := dk_182 1 19 (dk_at dksX10_share_0 15 rfl rfl)
theorem dX10_share_18 : decode cX10_share 18 = .ok (.ifCond .ne 5, 3) := dk_154 0 5 (dk_at dksX10_share_0 18 rfl rfl)
theorem dX10_share_21 : decode cX10_share 21 = .ok (.iconst 0, 1) := dk_3 (dk_at dksX10_share_0 21 rfl rfl)
theorem dX10_share_22 : decode cX10_share 22 = .ok (.ireturn, 1) := dk_172 (dk_at dksX10_share_0 22 rfl rfl)
theorem dX10_share_23 : decode cX10_share 23 = .ok (.bipush 16, 2) := dk_16 16 (dk_at dksX10_share_1 0 rfl rfl)
theorem dX10_share_25 : decode cX10_share 25 = .ok (.iload_n 1, 1) := dk_27 (dk_at dksX10_share_1 2 rfl rfl)
theorem dX10_share_26 : decode cX10_share 26 = .ok (.isub, 1) := dk_100 (dk_at dksX10_share_1 3 rfl rfl)
theorem dX10_share_27 : decode cX10_share 27 = .ok (.iconst 4, 1) := dk_7 (dk_at dksX10_share_1 4 rfl rfl)
theorem dX10_share_28 : decode cX10_share 28 = .ok (.idiv, 1) := dk_108 (dk_at dksX10_share_1 5 rfl rfl)
theorem dX10_share_29 : decode cX10_share 29 = .ok (.ireturn, 1) := dk_172 (dk_at dksX10_share_1 6 rfl rfl)
abbrev cX10_drive : ByteArray := prog_19_method_101_code
def yX10_drive : MethodName := ⟨RX10, "drive", "(I)I"⟩
def dkwX10_drive_1 : List UInt8 := [172]
abbrev dktX10_drive_1 : List UInt8 := dkwX10_drive_1 ++ []
def dkwX10_drive_0 : List UInt8 := [42, 3, 181, 0, 3, 42, 27, 182, 1, 226, 154, 0, 5, 3, 172, 42, 27, 182, 1, 229, 17, 3, 232, 108]
abbrev dktX10_drive_0 : List UInt8 := dkwX10_drive_0 ++ dktX10_drive_1
theorem dksX10_drive_0 : cX10_drive.data.toList.drop 0 = dktX10_drive_0 := by decide +kernel
theorem dksX10_drive_1 : cX10_drive.data.toList.drop 24 = dktX10_drive_1 := dk_seg dksX10_drive_0 24 rfl rfl
theorem dX10_drive_0 : decode cX10_drive 0 = .ok (.aload_n 0, 1) := dk_42 (dk_at dksX10_drive_0 0 rfl rfl)
theorem dX10_drive_1 : decode cX10_drive 1 = .ok (.iconst 0, 1) := dk_3 (dk_at dksX10_drive_0 1 rfl rfl)
theorem dX10_drive_2 : decode cX10_drive 2 = .ok (.putfield 3, 3) := dk_181 0 3 (dk_at dksX10_drive_0 2 rfl rfl)
theorem dX10_drive_5 : decode cX10_drive 5 = .ok (.aload_n 0, 1) := dk_42 (dk_at dksX10_drive_0 5 rfl rfl)
theorem dX10_drive_6 : decode cX10_drive 6 = .ok (.iload_n 1, 1) := dk_27 (dk_at dksX10_drive_0 6 rfl rfl)
theorem dX10_drive_7 : decode cX10_drive 7 = .ok (.invokevirtual 482, 3) := dk_182 1 226 (dk_at dksX10_drive_0 7 rfl rfl)
theorem dX10_drive_10 : decode cX10_drive 10 = .ok (.ifCond .ne 5, 3) := dk_154 0 5 (dk_at dksX10_drive_0 10 rfl rfl)
theorem dX10_drive_13 : decode cX10_drive 13 = .ok (.iconst 0, 1) := dk_3 (dk_at dksX10_drive_0 13 rfl rfl)
theorem dX10_drive_14 : decode cX10_drive 14 = .ok (.ireturn, 1) := dk_172 (dk_at dksX10_drive_0 14 rfl rfl)
theorem dX10_drive_15 : decode cX10_drive 15 = .ok (.aload_n 0, 1) := dk_42 (dk_at dksX10_drive_0 15 rfl rfl)
theorem dX10_drive_16 : decode cX10_drive 16 = .ok (.iload_n 1, 1) := dk_27 (dk_at dksX10_drive_0 16 rfl rfl)
theorem dX10_drive_17 : decode cX10_drive 17 = .ok (.invokevirtual 485, 3) := dk_182 1 229 (dk_at dksX10_drive_0 17 rfl rfl)
theorem dX10_drive_20 : decode cX10_drive 20 = .ok (.sipush 1000, 3) := dk_17 3 232 (dk_at dksX10_drive_0 20 rfl rfl)
theorem dX10_drive_23 : decode cX10_drive 23 = .ok (.idiv, 1) := dk_108 (dk_at dksX10_drive_0 23 rfl rfl)
theorem dX10_drive_24 : decode cX10_drive 24 = .ok (.ireturn, 1) := dk_172 (dk_at dksX10_drive_1 0 rfl rfl)
abbrev cX10_isDrive : ByteArray := prog_19_method_100_code
def yX10_isDrive : MethodName := ⟨RX10, "isDrive", "(I)Z"⟩
def dkwX10_isDrive_0 : List UInt8 := [42, 27, 4, 16, 30, 184, 1, 108, 4, 4, 182, 1, 19, 172]
abbrev dktX10_isDrive_0 : List UInt8 := dkwX10_isDrive_0 ++ []
theorem dksX10_isDrive_0 : cX10_isDrive.data.toList.drop 0 = dktX10_isDrive_0 := by decide +kernel
theorem dX10_isDrive_0 : decode cX10_isDrive 0 = .ok (.aload_n 0, 1) := dk_42 (dk_at dksX10_isDrive_0 0 rfl rfl)
theorem dX10_isDrive_1 : decode cX10_isDrive 1 = .ok (.iload_n 1, 1) := dk_27 (dk_at dksX10_isDrive_0 1 rfl rfl)
theorem dX10_isDrive_2 : decode cX10_isDrive 2 = .ok (.iconst 1, 1) := dk_4 (dk_at dksX10_isDrive_0 2 rfl rfl)
theorem dX10_isDrive_3 : decode cX10_isDrive 3 = .ok (.bipush 30, 2) := dk_16 30 (dk_at dksX10_isDrive_0 3 rfl rfl)
theorem dX10_isDrive_5 : decode cX10_isDrive 5 = .ok (.invokestatic 364, 3) := dk_184 1 108 (dk_at dksX10_isDrive_0 5 rfl rfl)
theorem dX10_isDrive_8 : decode cX10_isDrive 8 = .ok (.iconst 1, 1) := dk_4 (dk_at dksX10_isDrive_0 8 rfl rfl)
theorem dX10_isDrive_9 : decode cX10_isDrive 9 = .ok (.iconst 1, 1) := dk_4 (dk_at dksX10_isDrive_0 9 rfl rfl)
theorem dX10_isDrive_10 : decode cX10_isDrive 10 = .ok (.invokevirtual 275, 3) := dk_182 1 19 (dk_at dksX10_isDrive_0 10 rfl rfl)
theorem dX10_isDrive_13 : decode cX10_isDrive 13 = .ok (.ireturn, 1) := dk_172 (dk_at dksX10_isDrive_0 13 rfl rfl)
abbrev cX10_findDrive : ByteArray := prog_19_method_99_code
def yX10_findDrive : MethodName := ⟨RX10, "findDrive", "(I)I"⟩
def dkwX10_findDrive_9 : List UInt8 := [167, 255, 82, 132, 2, 255, 167, 255, 70, 42, 180, 0, 135, 16, 100, 42, 180, 0, 69, 6, 46, 96, 46, 172]
abbrev dktX10_findDrive_9 : List UInt8 := dkwX10_findDrive_9 ++ []
def dkwX10_findDrive_8 : List UInt8 := [132, 5, 1, 167, 255, 115, 42, 180, 0, 135, 16, 100, 28, 104, 29, 96, 21, 4, 79, 132, 3, 1]
abbrev dktX10_findDrive_8 : List UInt8 := dkwX10_findDrive_8 ++ dktX10_findDrive_9
def dkwX10_findDrive_7 : List UInt8 := [104, 21, 8, 96, 46, 96, 54, 9, 21, 9, 21, 4, 162, 0, 8, 21, 9, 167, 0, 5, 21, 4, 54, 4]
abbrev dktX10_findDrive_7 : List UInt8 := dkwX10_findDrive_7 ++ dktX10_findDrive_8
def dkwX10_findDrive_6 : List UInt8 := [54, 8, 17, 15, 161, 21, 5, 104, 17, 3, 232, 21, 7, 104, 96, 42, 180, 0, 135, 16, 100, 28, 4, 96]
abbrev dktX10_findDrive_6 : List UInt8 := dkwX10_findDrive_6 ++ dktX10_findDrive_7
def dkwX10_findDrive_5 : List UInt8 := [180, 0, 69, 7, 46, 112, 154, 0, 15, 21, 6, 158, 0, 10, 21, 6, 4, 100, 167, 0, 5, 21, 6]
abbrev dktX10_findDrive_5 : List UInt8 := dkwX10_findDrive_5 ++ dktX10_findDrive_6
def dkwX10_findDrive_4 : List UInt8 := [21, 6, 16, 30, 162, 0, 14, 16, 39, 21, 6, 100, 16, 10, 108, 167, 0, 4, 3, 96, 54, 7, 28, 42]
abbrev dktX10_findDrive_4 : List UInt8 := dkwX10_findDrive_4 ++ dktX10_findDrive_5
def dkwX10_findDrive_3 : List UInt8 := [29, 16, 10, 21, 5, 104, 96, 167, 0, 5, 16, 99, 54, 6, 21, 6, 8, 162, 0, 6, 167, 0, 99, 5]
abbrev dktX10_findDrive_3 : List UInt8 := dkwX10_findDrive_3 ++ dktX10_findDrive_4
def dkwX10_findDrive_2 : List UInt8 := [54, 4, 3, 54, 5, 21, 5, 16, 10, 163, 0, 140, 29, 16, 10, 21, 5, 104, 96, 16, 100, 162, 0, 13]
abbrev dktX10_findDrive_2 : List UInt8 := dkwX10_findDrive_2 ++ dktX10_findDrive_3
def dkwX10_findDrive_1 : List UInt8 := [132, 2, 1, 167, 255, 233, 27, 61, 28, 158, 0, 188, 3, 62, 29, 16, 100, 162, 0, 174, 19, 1, 225]
abbrev dktX10_findDrive_1 : List UInt8 := dkwX10_findDrive_1 ++ dktX10_findDrive_2
def dkwX10_findDrive_0 : List UInt8 := [3, 61, 28, 16, 100, 162, 0, 23, 42, 180, 0, 135, 16, 100, 27, 4, 96, 104, 28, 96, 3, 79]
abbrev dktX10_findDrive_0 : List UInt8 := dkwX10_findDrive_0 ++ dktX10_findDrive_1
theorem dksX10_findDrive_0 : cX10_findDrive.data.toList.drop 0 = dktX10_findDrive_0 := by decide +kernel
theorem dksX10_findDrive_1 : cX10_findDrive.data.toList.drop 22 = dktX10_findDrive_1 := dk_seg dksX10_findDrive_0 22 rfl rfl
theorem dksX10_findDrive_2 : cX10_findDrive.data.toList.drop 45 = dktX10_findDrive_2 := dk_seg dksX10_findDrive_1 23 rfl rfl
theorem dksX10_findDrive_3 : cX10_findDrive.data.toList.drop 69 = dktX10_findDrive_3 := dk_seg dksX10_findDrive_2 24 rfl rfl
theorem dksX10_findDrive_4 : cX10_findDrive.data.toList.drop 93 = dktX10_findDrive_4 := dk_seg dksX10_findDrive_3 24 rfl rfl
theorem dksX10_findDrive_5 : cX10_findDrive.data.toList.drop 117 = dktX10_findDrive_5 := dk_seg dksX10_findDrive_4 24 rfl rfl
theorem dksX10_findDrive_6 : cX10_findDrive.data.toList.drop 140 = dktX10_findDrive_6 := dk_seg dksX10_findDrive_5 23 rfl rfl
theorem dksX10_findDrive_7 : cX10_findDrive.data.toList.drop 164 = dktX10_findDrive_7 := dk_seg dksX10_findDrive_6 24 rfl rfl
theorem dksX10_findDrive_8 : cX10_findDrive.data.toList.drop 188 = dktX10_findDrive_8 := dk_seg dksX10_findDrive_7 24 rfl rfl
theorem dksX10_findDrive_9 : cX10_findDrive.data.toList.drop 210 = dktX10_findDrive_9 := dk_seg dksX10_findDrive_8 22 rfl rfl
theorem dX10_findDrive_0 : decode cX10_findDrive 0 = .ok (.iconst 0, 1) := dk_3 (dk_at dksX10_findDrive_0 0 rfl rfl)
theorem dX10_findDrive_1 : decode cX10_findDrive 1 = .ok (.istore_n 2, 1) := dk_61 (dk_at dksX10_findDrive_0 1 rfl rfl)
theorem dX10_findDrive_2 : decode cX10_findDrive 2 = .ok (.iload_n 2, 1) := dk_28 (dk_at dksX10_findDrive_0 2 rfl rfl)
theorem dX10_findDrive_3 : decode cX10_findDrive 3 = .ok (.bipush 100, 2) := dk_16 100 (dk_at dksX10_findDrive_0 3 rfl rfl)
theorem dX10_findDrive_5 : decode cX10_findDrive 5 = .ok (.if_icmp .ge 23, 3) := dk_162 0 23 (dk_at dksX10_findDrive_0 5 rfl rfl)
theorem dX10_findDrive_8 : decode cX10_findDrive 8 = .ok (.aload_n 0, 1) := dk_42 (dk_at dksX10_findDrive_0 8 rfl rfl)
theorem dX10_findDrive_9 : decode cX10_findDrive 9 = .ok (.getfield 135, 3) := dk_180 0 135 (dk_at dksX10_findDrive_0 9 rfl rfl)
theorem dX10_findDrive_12 : decode cX10_findDrive 12 = .ok (.bipush 100, 2) := dk_16 100 (dk_at dksX10_findDrive_0 12 rfl rfl)
theorem dX10_findDrive_14 : decode cX10_findDrive 14 = .ok (.iload_n 1, 1) := dk_27 (dk_at dksX10_findDrive_0 14 rfl rfl)
theorem dX10_findDrive_15 : decode cX10_findDrive 15 = .ok (.iconst 1, 1) := dk_4 (dk_at dksX10_findDrive_0 15 rfl rfl)
theorem dX10_findDrive_16 : decode cX10_findDrive 16 = .ok (.iadd, 1) := dk_96 (dk_at dksX10_findDrive_0 16 rfl rfl)
theorem dX10_findDrive_17 : decode cX10_findDrive 17 = .ok (.imul, 1) := dk_104 (dk_at dksX10_findDrive_0 17 rfl rfl)
theorem dX10_findDrive_18 : decode cX10_findDrive 18 = .ok (.iload_n 2, 1) := dk_28 (dk_at dksX10_findDrive_0 18 rfl rfl)
theorem dX10_findDrive_19 : decode cX10_findDrive 19 = .ok (.iadd, 1) := dk_96 (dk_at dksX10_findDrive_0 19 rfl rfl)
theorem dX10_findDrive_20 : decode cX10_findDrive 20 = .ok (.iconst 0, 1) := dk_3 (dk_at dksX10_findDrive_0 20 rfl rfl)
theorem dX10_findDrive_21 : decode cX10_findDrive 21 = .ok (.iastore, 1) := dk_79 (dk_at dksX10_findDrive_0 21 rfl rfl)
theorem dX10_findDrive_22 : decode cX10_findDrive 22 = .ok (.iinc 2 1, 3) := dk_132 2 1 (dk_at dksX10_findDrive_1 0 rfl rfl)
theorem dX10_findDrive_25 : decode cX10_findDrive 25 = .ok (.goto (-23), 3) := dk_167 255 233 (dk_at dksX10_findDrive_1 3 rfl rfl)
theorem dX10_findDrive_28 : decode cX10_findDrive 28 = .ok (.iload_n 1, 1) := dk_27 (dk_at dksX10_findDrive_1 6 rfl rfl)
theorem dX10_findDrive_29 : decode cX10_findDrive 29 = .ok (.istore_n 2, 1) := dk_61 (dk_at dksX10_findDrive_1 7 rfl rfl)
theorem dX10_findDrive_30 : decode cX10_findDrive 30 = .ok (.iload_n 2, 1) := dk_28 (dk_at dksX10_findDrive_1 8 rfl rfl)
theorem dX10_findDrive_31 : decode cX10_findDrive 31 = .ok (.ifCond .le 188, 3) := dk_158 0 188 (dk_at dksX10_findDrive_1 9 rfl rfl)
theorem dX10_findDrive_34 : decode cX10_findDrive 34 = .ok (.iconst 0, 1) := dk_3 (dk_at dksX10_findDrive_1 12 rfl rfl)
theorem dX10_findDrive_35 : decode cX10_findDrive 35 = .ok (.istore_n 3, 1) := dk_62 (dk_at dksX10_findDrive_1 13 rfl rfl)
theorem dX10_findDrive_36 : decode cX10_findDrive 36 = .ok (.iload_n 3, 1) := dk_29 (dk_at dksX10_findDrive_1 14 rfl rfl)
theorem dX10_findDrive_37 : decode cX10_findDrive 37 = .ok (.bipush 100, 2) := dk_16 100 (dk_at dksX10_findDrive_1 15 rfl rfl)
theorem dX10_findDrive_39 : decode cX10_findDrive 39 = .ok (.if_icmp .ge 174, 3) := dk_162 0 174 (dk_at dksX10_findDrive_1 17 rfl rfl)
theorem dX10_findDrive_42 : decode cX10_findDrive 42 = .ok (.ldc_w 481, 3) := dk_19 1 225 (dk_at dksX10_findDrive_1 20 rfl rfl)
theorem dX10_findDrive_45 : decode cX10_findDrive 45 = .ok (.istore 4, 2) := dk_54 4 (dk_at dksX10_findDrive_2 0 rfl rfl)
theorem dX10_findDrive_47 : decode cX10_findDrive 47 = .ok (.iconst 0, 1) := dk_3 (dk_at dksX10_findDrive_2 2 rfl rfl)
theorem dX10_findDrive_48 : decode cX10_findDrive 48 = .ok (.istore 5, 2) := dk_54 5 (dk_at dksX10_findDrive_2 3 rfl rfl)
theorem dX10_findDrive_50 : decode cX10_findDrive 50 = .ok (.iload 5, 2) := dk_21 5 (dk_at dksX10_findDrive_2 5 rfl rfl)
theorem dX10_findDrive_52 : decode cX10_findDrive 52 = .ok (.bipush 10, 2) := dk_16 10 (dk_at dksX10_findDrive_2 7 rfl rfl)
theorem dX10_findDrive_54 : decode cX10_findDrive 54 = .ok (.if_icmp .gt 140, 3) := dk_163 0 140 (dk_at dksX10_findDrive_2 9 rfl rfl)
theorem dX10_findDrive_57 : decode cX10_findDrive 57 = .ok (.iload_n 3, 1) := dk_29 (dk_at dksX10_findDrive_2 12 rfl rfl)
theorem dX10_findDrive_58 : decode cX10_findDrive 58 = .ok (.bipush 10, 2) := dk_16 10 (dk_at dksX10_findDrive_2 13 rfl rfl)
theorem dX10_findDrive_60 : decode cX10_findDrive 60 = .ok (.iload 5, 2) := dk_21 5 (dk_at dksX10_findDrive_2 15 rfl rfl)
theorem dX10_findDrive_62 : decode cX10_findDrive 62 = .ok (.imul, 1) := dk_104 (dk_at dksX10_findDrive_2 17 rfl rfl)
theorem dX10_findDrive_63 : decode cX10_findDrive 63 = .ok (.iadd, 1) := dk_96 (dk_at dksX10_findDrive_2 18 rfl rfl)
theorem dX10_findDrive_64 : decode cX10_findDrive 64 = .ok (.bipush 100, 2) := dk_16 100 (dk_at dksX10_findDrive_2 19 rfl rfl)
theorem dX10_findDrive_66 : decode cX10_findDrive 66 = .ok (.if_icmp .ge 13, 3) := dk_162 0 13 (dk_at dksX10_findDrive_2 21 rfl rfl)
theorem dX10_findDrive_69 : decode cX10_findDrive 69 = .ok (.iload_n 3, 1) := dk_29 (dk_at dksX10_findDrive_3 0 rfl rfl)
theorem dX10_findDrive_70 : decode cX10_findDrive 70 = .ok (.bipush 10, 2) := dk_16 10 (dk_at dksX10_findDrive_3 1 rfl rfl)
theorem dX10_findDrive_72 : decode cX10_findDrive 72 = .ok (.iload 5, 2) := dk_21 5 (dk_at dksX10_findDrive_3 3 rfl rfl)
theorem dX10_findDrive_74 : decode cX10_findDrive 74 = .ok (.imul, 1) := dk_104 (dk_at dksX10_findDrive_3 5 rfl rfl)
theorem dX10_findDrive_75 : decode cX10_findDrive 75 = .ok (.iadd, 1) := dk_96 (dk_at dksX10_findDrive_3 6 rfl rfl)
theorem dX10_findDrive_76 : decode cX10_findDrive 76 = .ok (.goto 5, 3) := dk_167 0 5 (dk_at dksX10_findDrive_3 7 rfl rfl)
theorem dX10_findDrive_79 : decode cX10_findDrive 79 = .ok (.bipush 99, 2) := dk_16 99 (dk_at dksX10_findDrive_3 10 rfl rfl)
theorem dX10_findDrive_81 : decode cX10_findDrive 81 = .ok (.istore 6, 2) := dk_54 6 (dk_at dksX10_findDrive_3 12 rfl rfl)
theorem dX10_findDrive_83 : decode cX10_findDrive 83 = .ok (.iload 6, 2) := dk_21 6 (dk_at dksX10_findDrive_3 14 rfl rfl)
theorem dX10_findDrive_85 : decode cX10_findDrive 85 = .ok (.iconst 5, 1) := dk_8 (dk_at dksX10_findDrive_3 16 rfl rfl)
theorem dX10_findDrive_86 : decode cX10_findDrive 86 = .ok (.if_icmp .ge 6, 3) := dk_162 0 6 (dk_at dksX10_findDrive_3 17 rfl rfl)
theorem dX10_findDrive_89 : decode cX10_findDrive 89 = .ok (.goto 99, 3) := dk_167 0 99 (dk_at dksX10_findDrive_3 20 rfl rfl)
theorem dX10_findDrive_92 : decode cX10_findDrive 92 = .ok (.iconst 2, 1) := dk_5 (dk_at dksX10_findDrive_3 23 rfl rfl)
theorem dX10_findDrive_93 : decode cX10_findDrive 93 = .ok (.iload 6, 2) := dk_21 6 (dk_at dksX10_findDrive_4 0 rfl rfl)
theorem dX10_findDrive_95 : decode cX10_findDrive 95 = .ok (.bipush 30, 2) := dk_16 30 (dk_at dksX10_findDrive_4 2 rfl rfl)
theorem dX10_findDrive_97 : decode cX10_findDrive 97 = .ok (.if_icmp .ge 14, 3) := dk_162 0 14 (dk_at dksX10_findDrive_4 4 rfl rfl)
theorem dX10_findDrive_100 : decode cX10_findDrive 100 = .ok (.bipush 39, 2) := dk_16 39 (dk_at dksX10_findDrive_4 7 rfl rfl)
theorem dX10_findDrive_102 : decode cX10_findDrive 102 = .ok (.iload 6, 2) := dk_21 6 (dk_at dksX10_findDrive_4 9 rfl rfl)
theorem dX10_findDrive_104 : decode cX10_findDrive 104 = .ok (.isub, 1) := dk_100 (dk_at dksX10_findDrive_4 11 rfl rfl)
theorem dX10_findDrive_105 : decode cX10_findDrive 105 = .ok (.bipush 10, 2) := dk_16 10 (dk_at dksX10_findDrive_4 12 rfl rfl)
theorem dX10_findDrive_107 : decode cX10_findDrive 107 = .ok (.idiv, 1) := dk_108 (dk_at dksX10_findDrive_4 14 rfl rfl)
theorem dX10_findDrive_108 : decode cX10_findDrive 108 = .ok (.goto 4, 3) := dk_167 0 4 (dk_at dksX10_findDrive_4 15 rfl rfl)
theorem dX10_findDrive_111 : decode cX10_findDrive 111 = .ok (.iconst 0, 1) := dk_3 (dk_at dksX10_findDrive_4 18 rfl rfl)
theorem dX10_findDrive_112 : decode cX10_findDrive 112 = .ok (.iadd, 1) := dk_96 (dk_at dksX10_findDrive_4 19 rfl rfl)
theorem dX10_findDrive_113 : decode cX10_findDrive 113 = .ok (.istore 7, 2) := dk_54 7 (dk_at dksX10_findDrive_4 20 rfl rfl)
theorem dX10_findDrive_115 : decode cX10_findDrive 115 = .ok (.iload_n 2, 1) := dk_28 (dk_at dksX10_findDrive_4 22 rfl rfl)
theorem dX10_findDrive_116 : decode cX10_findDrive 116 = .ok (.aload_n 0, 1) := dk_42 (dk_at dksX10_findDrive_4 23 rfl rfl)
theorem dX10_findDrive_117 : decode cX10_findDrive 117 = .ok (.getfield 69, 3) := dk_180 0 69 (dk_at dksX10_findDrive_5 0 rfl rfl)
theorem dX10_findDrive_120 : decode cX10_findDrive 120 = .ok (.iconst 4, 1) := dk_7 (dk_at dksX10_findDrive_5 3 rfl rfl)
theorem dX10_findDrive_121 : decode cX10_findDrive 121 = .ok (.iaload, 1) := dk_46 (dk_at dksX10_findDrive_5 4 rfl rfl)
theorem dX10_findDrive_122 : decode cX10_findDrive 122 = .ok (.irem, 1) := dk_112 (dk_at dksX10_findDrive_5 5 rfl rfl)
theorem dX10_findDrive_123 : decode cX10_findDrive 123 = .ok (.ifCond .ne 15, 3) := dk_154 0 15 (dk_at dksX10_findDrive_5 6 rfl rfl)
theorem dX10_findDrive_126 : decode cX10_findDrive 126 = .ok (.iload 6, 2) := dk_21 6 (dk_at dksX10_findDrive_5 9 rfl rfl)
theorem dX10_findDrive_128 : decode cX10_findDrive 128 = .ok (.ifCond .le 10, 3) := dk_158 0 10 (dk_at dksX10_findDrive_5 11 rfl rfl)
theorem dX10_findDrive_131 : decode cX10_findDrive 131 = .ok (.iload 6, 2) := dk_21 6 (dk_at dksX10_findDrive_5 14 rfl rfl)
theorem dX10_findDrive_133 : decode cX10_findDrive 133 = .ok (.iconst 1, 1) := dk_4 (dk_at dksX10_findDrive_5 16 rfl rfl)
theorem dX10_findDrive_134 : decode cX10_findDrive 134 = .ok (.isub, 1) := dk_100 (dk_at dksX10_findDrive_5 17 rfl rfl)
theorem dX10_findDrive_135 : decode cX10_findDrive 135 = .ok (.goto 5, 3) := dk_167 0 5 (dk_at dksX10_findDrive_5 18 rfl rfl)
theorem dX10_findDrive_138 : decode cX10_findDrive 138 = .ok (.iload 6, 2) := dk_21 6 (dk_at dksX10_findDrive_5 21 rfl rfl)
theorem dX10_findDrive_140 : decode cX10_findDrive 140 = .ok (.istore 8, 2) := dk_54 8 (dk_at dksX10_findDrive_6 0 rfl rfl)
theorem dX10_findDrive_142 : decode cX10_findDrive 142 = .ok (.sipush 4001, 3) := dk_17 15 161 (dk_at dksX10_findDrive_6 2 rfl rfl)
theorem dX10_findDrive_145 : decode cX10_findDrive 145 = .ok (.iload 5, 2) := dk_21 5 (dk_at dksX10_findDrive_6 5 rfl rfl)
theorem dX10_findDrive_147 : decode cX10_findDrive 147 = .ok (.imul, 1) := dk_104 (dk_at dksX10_findDrive_6 7 rfl rfl)
theorem dX10_findDrive_148 : decode cX10_findDrive 148 = .ok (.sipush 1000, 3) := dk_17 3 232 (dk_at dksX10_findDrive_6 8 rfl rfl)
theorem dX10_findDrive_151 : decode cX10_findDrive 151 = .ok (.iload 7, 2) := dk_21 7 (dk_at dksX10_findDrive_6 11 rfl rfl)
theorem dX10_findDrive_153 : decode cX10_findDrive 153 = .ok (.imul, 1) := dk_104 (dk_at dksX10_findDrive_6 13 rfl rfl)
theorem dX10_findDrive_154 : decode cX10_findDrive 154 = .ok (.iadd, 1) := dk_96 (dk_at dksX10_findDrive_6 14 rfl rfl)
theorem dX10_findDrive_155 : decode cX10_findDrive 155 = .ok (.aload_n 0, 1) := dk_42 (dk_at dksX10_findDrive_6 15 rfl rfl)
theorem dX10_findDrive_156 : decode cX10_findDrive 156 = .ok (.getfield 135, 3) := dk_180 0 135 (dk_at dksX10_findDrive_6 16 rfl rfl)
theorem dX10_findDrive_159 : decode cX10_findDrive 159 = .ok (.bipush 100, 2) := dk_16 100 (dk_at dksX10_findDrive_6 19 rfl rfl)
theorem dX10_findDrive_161 : decode cX10_findDrive 161 = .ok (.iload_n 2, 1) := dk_28 (dk_at dksX10_findDrive_6 21 rfl rfl)
theorem dX10_findDrive_162 : decode cX10_findDrive 162 = .ok (.iconst 1, 1) := dk_4 (dk_at dksX10_findDrive_6 22 rfl rfl)
theorem dX10_findDrive_163 : decode cX10_findDrive 163 = .ok (.iadd, 1) := dk_96 (dk_at dksX10_findDrive_6 23 rfl rfl)
theorem dX10_findDrive_164 : decode cX10_findDrive 164 = .ok (.imul, 1) := dk_104 (dk_at dksX10_findDrive_7 0 rfl rfl)
theorem dX10_findDrive_165 : decode cX10_findDrive 165 = .ok (.iload 8, 2) := dk_21 8 (dk_at dksX10_findDrive_7 1 rfl rfl)
theorem dX10_findDrive_167 : decode cX10_findDrive 167 = .ok (.iadd, 1) := dk_96 (dk_at dksX10_findDrive_7 3 rfl rfl)
theorem dX10_findDrive_168 : decode cX10_findDrive 168 = .ok (.iaload, 1) := dk_46 (dk_at dksX10_findDrive_7 4 rfl rfl)
theorem dX10_findDrive_169 : decode cX10_findDrive 169 = .ok (.iadd, 1) := dk_96 (dk_at dksX10_findDrive_7 5 rfl rfl)
theorem dX10_findDrive_170 : decode cX10_findDrive 170 = .ok (.istore 9, 2) := dk_54 9 (dk_at dksX10_findDrive_7 6 rfl rfl)
theorem dX10_findDrive_172 : decode cX10_findDrive 172 = .ok (.iload 9, 2) := dk_21 9 (dk_at dksX10_findDrive_7 8 rfl rfl)
theorem dX10_findDrive_174 : decode cX10_findDrive 174 = .ok (.iload 4, 2) := dk_21 4 (dk_at dksX10_findDrive_7 10 rfl rfl)
theorem dX10_findDrive_176 : decode cX10_findDrive 176 = .ok (.if_icmp .ge 8, 3) := dk_162 0 8 (dk_at dksX10_findDrive_7 12 rfl rfl)
theorem dX10_findDrive_179 : decode cX10_findDrive 179 = .ok (.iload 9, 2) := dk_21 9 (dk_at dksX10_findDrive_7 15 rfl rfl)
theorem dX10_findDrive_181 : decode cX10_findDrive 181 = .ok (.goto 5, 3) := dk_167 0 5 (dk_at dksX10_findDrive_7 17 rfl rfl)
theorem dX10_findDrive_184 : decode cX10_findDrive 184 = .ok (.iload 4, 2) := dk_21 4 (dk_at dksX10_findDrive_7 20 rfl rfl)
theorem dX10_findDrive_186 : decode cX10_findDrive 186 = .ok (.istore 4, 2) := dk_54 4 (dk_at dksX10_findDrive_7 22 rfl rfl)
theorem dX10_findDrive_188 : decode cX10_findDrive 188 = .ok (.iinc 5 1, 3) := dk_132 5 1 (dk_at dksX10_findDrive_8 0 rfl rfl)
theorem dX10_findDrive_191 : decode cX10_findDrive 191 = .ok (.goto (-141), 3) := dk_167 255 115 (dk_at dksX10_findDrive_8 3 rfl rfl)
theorem dX10_findDrive_194 : decode cX10_findDrive 194 = .ok (.aload_n 0, 1) := dk_42 (dk_at dksX10_findDrive_8 6 rfl rfl)
theorem dX10_findDrive_195 : decode cX10_findDrive 195 = .ok (.getfield 135, 3) := dk_180 0 135 (dk_at dksX10_findDrive_8 7 rfl rfl)
theorem dX10_findDrive_198 : decode cX10_findDrive 198 = .ok (.bipush 100, 2) := dk_16 100 (dk_at dksX10_findDrive_8 10 rfl rfl)
theorem dX10_findDrive_200 : decode cX10_findDrive 200 = .ok (.iload_n 2, 1) := dk_28 (dk_at dksX10_findDrive_8 12 rfl rfl)
theorem dX10_findDrive_201 : decode cX10_findDrive 201 = .ok (.imul, 1) := dk_104 (dk_at dksX10_findDrive_8 13 rfl rfl)
theorem dX10_findDrive_202 : decode cX10_findDrive 202 = .ok (.iload_n 3, 1) := dk_29 (dk_at dksX10_findDrive_8 14 rfl rfl)
theorem dX10_findDrive_203 : decode cX10_findDrive 203 = .ok (.iadd, 1) := dk_96 (dk_at dksX10_findDrive_8 15 rfl rfl)
theorem dX10_findDrive_204 : decode cX10_findDrive 204 = .ok (.iload 4, 2) := dk_21 4 (dk_at dksX10_findDrive_8 16 rfl rfl)
theorem dX10_findDrive_206 : decode cX10_findDrive 206 = .ok (.iastore, 1) := dk_79 (dk_at dksX10_findDrive_8 18 rfl rfl)
theorem dX10_findDrive_207 : decode cX10_findDrive 207 = .ok (.iinc 3 1, 3) := dk_132 3 1 (dk_at dksX10_findDrive_8 19 rfl rfl)
theorem dX10_findDrive_210 : decode cX10_findDrive 210 = .ok (.goto (-174), 3) := dk_167 255 82 (dk_at dksX10_findDrive_9 0 rfl rfl)
theorem dX10_findDrive_213 : decode cX10_findDrive 213 = .ok (.iinc 2 (-1), 3) := dk_132 2 255 (dk_at dksX10_findDrive_9 3 rfl rfl)
theorem dX10_findDrive_216 : decode cX10_findDrive 216 = .ok (.goto (-186), 3) := dk_167 255 70 (dk_at dksX10_findDrive_9 6 rfl rfl)
theorem dX10_findDrive_219 : decode cX10_findDrive 219 = .ok (.aload_n 0, 1) := dk_42 (dk_at dksX10_findDrive_9 9 rfl rfl)
theorem dX10_findDrive_220 : decode cX10_findDrive 220 = .ok (.getfield 135, 3) := dk_180 0 135 (dk_at dksX10_findDrive_9 10 rfl rfl)
theorem dX10_findDrive_223 : decode cX10_findDrive 223 = .ok (.bipush 100, 2) := dk_16 100 (dk_at dksX10_findDrive_9 13 rfl rfl)
theorem dX10_findDrive_225 : decode cX10_findDrive 225 = .ok (.aload_n 0, 1) := dk_42 (dk_at dksX10_findDrive_9 15 rfl rfl)
theorem dX10_findDrive_226 : decode cX10_findDrive 226 = .ok (.getfield 69, 3) := dk_180 0 69 (dk_at dksX10_findDrive_9 16 rfl rfl)
theorem dX10_findDrive_229 : decode cX10_findDrive 229 = .ok (.iconst 3, 1) := dk_6 (dk_at dksX10_findDrive_9 19 rfl rfl)
theorem dX10_findDrive_230 : decode cX10_findDrive 230 = .ok (.iaload, 1) := dk_46 (dk_at dksX10_findDrive_9 20 rfl rfl)
theorem dX10_findDrive_231 : decode cX10_findDrive 231 = .ok (.iadd, 1) := dk_96 (dk_at dksX10_findDrive_9 21 rfl rfl)
theorem dX10_findDrive_232 : decode cX10_findDrive 232 = .ok (.iaload, 1) := dk_46 (dk_at dksX10_findDrive_9 22 rfl rfl)
theorem dX10_findDrive_233 : decode cX10_findDrive 233 = .ok (.ireturn, 1) := dk_172 (dk_at dksX10_findDrive_9 23 rfl rfl)
abbrev cX10_pumps : ByteArray := prog_19_method_102_code
def yX10_pumps : MethodName := ⟨RX10, "pumps", "(I)I"⟩
def dkwX10_pumps_1 : List UInt8 := [172]
abbrev dktX10_pumps_1 : List UInt8 := dkwX10_pumps_1 ++ []
def dkwX10_pumps_0 : List UInt8 := [42, 3, 181, 0, 3, 42, 27, 182, 1, 226, 154, 0, 5, 3, 172, 42, 27, 182, 1, 229, 17, 3, 232, 112]
abbrev dktX10_pumps_0 : List UInt8 := dkwX10_pumps_0 ++ dktX10_pumps_1
theorem dksX10_pumps_0 : cX10_pumps.data.toList.drop 0 = dktX10_pumps_0 := by decide +kernel
theorem dksX10_pumps_1 : cX10_pumps.data.toList.drop 24 = dktX10_pumps_1 := dk_seg dksX10_pumps_0 24 rfl rfl
theorem dX10_pumps_0 : decode cX10_pumps 0 = .ok (.aload_n 0, 1) := dk_42 (dk_at dksX10_pumps_0 0 rfl rfl)
theorem dX10_pumps_1 : decode cX10_pumps 1 = .ok (.iconst 0, 1) := dk_3 (dk_at dksX10_pumps_0 1 rfl rfl)
theorem dX10_pumps_2 : decode cX10_pumps 2 = .ok (.putfield 3, 3) := dk_181 0 3 (dk_at dksX10_pumps_0 2 rfl rfl)
theorem dX10_pumps_5 : decode cX10_pumps 5 = .ok (.aload_n 0, 1) := dk_42 (dk_at dksX10_pumps_0 5 rfl rfl)
theorem dX10_pumps_6 : decode cX10_pumps 6 = .ok (.iload_n 1, 1) := dk_27 (dk_at dksX10_pumps_0 6 rfl rfl)
theorem dX10_pumps_7 : decode cX10_pumps 7 = .ok (.invokevirtual 482, 3) := dk_182 1 226 (dk_at dksX10_pumps_0 7 rfl rfl)
theorem dX10_pumps_10 : decode cX10_pumps 10 = .ok (.ifCond .ne 5, 3) := dk_154 0 5 (dk_at dksX10_pumps_0 10 rfl rfl)
theorem dX10_pumps_13 : decode cX10_pumps 13 = .ok (.iconst 0, 1) := dk_3 (dk_at dksX10_pumps_0 13 rfl rfl)
theorem dX10_pumps_14 : decode cX10_pumps 14 = .ok (.ireturn, 1) := dk_172 (dk_at dksX10_pumps_0 14 rfl rfl)
theorem dX10_pumps_15 : decode cX10_pumps 15 = .ok (.aload_n 0, 1) := dk_42 (dk_at dksX10_pumps_0 15 rfl rfl)
theorem dX10_pumps_16 : decode cX10_pumps 16 = .ok (.iload_n 1, 1) := dk_27 (dk_at dksX10_pumps_0 16 rfl rfl)
theorem dX10_pumps_17 : decode cX10_pumps 17 = .ok (.invokevirtual 485, 3) := dk_182 1 229 (dk_at dksX10_pumps_0 17 rfl rfl)
theorem dX10_pumps_20 : decode cX10_pumps 20 = .ok (.sipush 1000, 3) := dk_17 3 232 (dk_at dksX10_pumps_0 20 rfl rfl)
theorem dX10_pumps_23 : decode cX10_pumps 23 = .ok (.irem, 1) := dk_112 (dk_at dksX10_pumps_0 23 rfl rfl)
theorem dX10_pumps_24 : decode cX10_pumps 24 = .ok (.ireturn, 1) := dk_172 (dk_at dksX10_pumps_1 0 rfl rfl)
abbrev cX10_odds : ByteArray := prog_19_method_104_code
def yX10_odds : MethodName := ⟨RX10, "odds", "(II)J"⟩
def dkwX10_odds_4 : List UInt8 := [33, 28, 184, 1, 201, 173]
abbrev dktX10_odds_4 : List UInt8 := dkwX10_odds_4 ++ []
def dkwX10_odds_3 : List UInt8 := [132, 5, 1, 167, 255, 233, 33, 9, 148, 154, 0, 8, 28, 133, 167, 0, 15, 42, 27, 2, 3, 182, 1, 232]
abbrev dktX10_odds_3 : List UInt8 := dkwX10_odds_3 ++ dktX10_odds_4
def dkwX10_odds_2 : List UInt8 := [54, 5, 21, 5, 42, 180, 0, 226, 162, 0, 20, 33, 42, 21, 5, 2, 3, 182, 1, 232, 97, 66]
abbrev dktX10_odds_2 : List UInt8 := dkwX10_odds_2 ++ dktX10_odds_3
def dkwX10_odds_1 : List UInt8 := [153, 0, 18, 42, 28, 3, 4, 184, 1, 108, 5, 4, 182, 1, 19, 154, 0, 5, 9, 173, 9, 66, 3]
abbrev dktX10_odds_1 : List UInt8 := dkwX10_odds_1 ++ dktX10_odds_2
def dkwX10_odds_0 : List UInt8 := [42, 3, 181, 0, 3, 42, 27, 3, 42, 180, 0, 226, 4, 100, 184, 1, 108, 4, 3, 182, 1, 19]
abbrev dktX10_odds_0 : List UInt8 := dkwX10_odds_0 ++ dktX10_odds_1
theorem dksX10_odds_0 : cX10_odds.data.toList.drop 0 = dktX10_odds_0 := by decide +kernel
theorem dksX10_odds_1 : cX10_odds.data.toList.drop 22 = dktX10_odds_1 := dk_seg dksX10_odds_0 22 rfl rfl
theorem dksX10_odds_2 : cX10_odds.data.toList.drop 45 = dktX10_odds_2 := dk_seg dksX10_odds_1 23 rfl rfl
theorem dksX10_odds_3 : cX10_odds.data.toList.drop 67 = dktX10_odds_3 := dk_seg dksX10_odds_2 22 rfl rfl
theorem dksX10_odds_4 : cX10_odds.data.toList.drop 91 = dktX10_odds_4 := dk_seg dksX10_odds_3 24 rfl rfl
theorem dX10_odds_0 : decode cX10_odds 0 = .ok (.aload_n 0, 1) := dk_42 (dk_at dksX10_odds_0 0 rfl rfl)
theorem dX10_odds_1 : decode cX10_odds 1 = .ok (.iconst 0, 1) := dk_3 (dk_at dksX10_odds_0 1 rfl rfl)
theorem dX10_odds_2 : decode cX10_odds 2 = .ok (.putfield 3, 3) := dk_181 0 3 (dk_at dksX10_odds_0 2 rfl rfl)
theorem dX10_odds_5 : decode cX10_odds 5 = .ok (.aload_n 0, 1) := dk_42 (dk_at dksX10_odds_0 5 rfl rfl)
theorem dX10_odds_6 : decode cX10_odds 6 = .ok (.iload_n 1, 1) := dk_27 (dk_at dksX10_odds_0 6 rfl rfl)
theorem dX10_odds_7 : decode cX10_odds 7 = .ok (.iconst 0, 1) := dk_3 (dk_at dksX10_odds_0 7 rfl rfl)
theorem dX10_odds_8 : decode cX10_odds 8 = .ok (.aload_n 0, 1) := dk_42 (dk_at dksX10_odds_0 8 rfl rfl)
theorem dX10_odds_9 : decode cX10_odds 9 = .ok (.getfield 226, 3) := dk_180 0 226 (dk_at dksX10_odds_0 9 rfl rfl)
theorem dX10_odds_12 : decode cX10_odds 12 = .ok (.iconst 1, 1) := dk_4 (dk_at dksX10_odds_0 12 rfl rfl)
theorem dX10_odds_13 : decode cX10_odds 13 = .ok (.isub, 1) := dk_100 (dk_at dksX10_odds_0 13 rfl rfl)
theorem dX10_odds_14 : decode cX10_odds 14 = .ok (.invokestatic 364, 3) := dk_184 1 108 (dk_at dksX10_odds_0 14 rfl rfl)
theorem dX10_odds_17 : decode cX10_odds 17 = .ok (.iconst 1, 1) := dk_4 (dk_at dksX10_odds_0 17 rfl rfl)
theorem dX10_odds_18 : decode cX10_odds 18 = .ok (.iconst 0, 1) := dk_3 (dk_at dksX10_odds_0 18 rfl rfl)
theorem dX10_odds_19 : decode cX10_odds 19 = .ok (.invokevirtual 275, 3) := dk_182 1 19 (dk_at dksX10_odds_0 19 rfl rfl)
theorem dX10_odds_22 : decode cX10_odds 22 = .ok (.ifCond .eq 18, 3) := dk_153 0 18 (dk_at dksX10_odds_1 0 rfl rfl)
theorem dX10_odds_25 : decode cX10_odds 25 = .ok (.aload_n 0, 1) := dk_42 (dk_at dksX10_odds_1 3 rfl rfl)
theorem dX10_odds_26 : decode cX10_odds 26 = .ok (.iload_n 2, 1) := dk_28 (dk_at dksX10_odds_1 4 rfl rfl)
theorem dX10_odds_27 : decode cX10_odds 27 = .ok (.iconst 0, 1) := dk_3 (dk_at dksX10_odds_1 5 rfl rfl)
theorem dX10_odds_28 : decode cX10_odds 28 = .ok (.iconst 1, 1) := dk_4 (dk_at dksX10_odds_1 6 rfl rfl)
theorem dX10_odds_29 : decode cX10_odds 29 = .ok (.invokestatic 364, 3) := dk_184 1 108 (dk_at dksX10_odds_1 7 rfl rfl)
theorem dX10_odds_32 : decode cX10_odds 32 = .ok (.iconst 2, 1) := dk_5 (dk_at dksX10_odds_1 10 rfl rfl)
theorem dX10_odds_33 : decode cX10_odds 33 = .ok (.iconst 1, 1) := dk_4 (dk_at dksX10_odds_1 11 rfl rfl)
theorem dX10_odds_34 : decode cX10_odds 34 = .ok (.invokevirtual 275, 3) := dk_182 1 19 (dk_at dksX10_odds_1 12 rfl rfl)
theorem dX10_odds_37 : decode cX10_odds 37 = .ok (.ifCond .ne 5, 3) := dk_154 0 5 (dk_at dksX10_odds_1 15 rfl rfl)
theorem dX10_odds_40 : decode cX10_odds 40 = .ok (.lconst 0, 1) := dk_9 (dk_at dksX10_odds_1 18 rfl rfl)
theorem dX10_odds_41 : decode cX10_odds 41 = .ok (.lreturn, 1) := dk_173 (dk_at dksX10_odds_1 19 rfl rfl)
theorem dX10_odds_42 : decode cX10_odds 42 = .ok (.lconst 0, 1) := dk_9 (dk_at dksX10_odds_1 20 rfl rfl)
theorem dX10_odds_43 : decode cX10_odds 43 = .ok (.lstore_n 3, 1) := dk_66 (dk_at dksX10_odds_1 21 rfl rfl)
theorem dX10_odds_44 : decode cX10_odds 44 = .ok (.iconst 0, 1) := dk_3 (dk_at dksX10_odds_1 22 rfl rfl)
theorem dX10_odds_45 : decode cX10_odds 45 = .ok (.istore 5, 2) := dk_54 5 (dk_at dksX10_odds_2 0 rfl rfl)
theorem dX10_odds_47 : decode cX10_odds 47 = .ok (.iload 5, 2) := dk_21 5 (dk_at dksX10_odds_2 2 rfl rfl)
theorem dX10_odds_49 : decode cX10_odds 49 = .ok (.aload_n 0, 1) := dk_42 (dk_at dksX10_odds_2 4 rfl rfl)
theorem dX10_odds_50 : decode cX10_odds 50 = .ok (.getfield 226, 3) := dk_180 0 226 (dk_at dksX10_odds_2 5 rfl rfl)
theorem dX10_odds_53 : decode cX10_odds 53 = .ok (.if_icmp .ge 20, 3) := dk_162 0 20 (dk_at dksX10_odds_2 8 rfl rfl)
theorem dX10_odds_56 : decode cX10_odds 56 = .ok (.lload_n 3, 1) := dk_33 (dk_at dksX10_odds_2 11 rfl rfl)
theorem dX10_odds_57 : decode cX10_odds 57 = .ok (.aload_n 0, 1) := dk_42 (dk_at dksX10_odds_2 12 rfl rfl)
theorem dX10_odds_58 : decode cX10_odds 58 = .ok (.iload 5, 2) := dk_21 5 (dk_at dksX10_odds_2 13 rfl rfl)
theorem dX10_odds_60 : decode cX10_odds 60 = .ok (.iconst (-1), 1) := dk_2 (dk_at dksX10_odds_2 15 rfl rfl)
theorem dX10_odds_61 : decode cX10_odds 61 = .ok (.iconst 0, 1) := dk_3 (dk_at dksX10_odds_2 16 rfl rfl)
theorem dX10_odds_62 : decode cX10_odds 62 = .ok (.invokevirtual 488, 3) := dk_182 1 232 (dk_at dksX10_odds_2 17 rfl rfl)
theorem dX10_odds_65 : decode cX10_odds 65 = .ok (.ladd, 1) := dk_97 (dk_at dksX10_odds_2 20 rfl rfl)
theorem dX10_odds_66 : decode cX10_odds 66 = .ok (.lstore_n 3, 1) := dk_66 (dk_at dksX10_odds_2 21 rfl rfl)
theorem dX10_odds_67 : decode cX10_odds 67 = .ok (.iinc 5 1, 3) := dk_132 5 1 (dk_at dksX10_odds_3 0 rfl rfl)
theorem dX10_odds_70 : decode cX10_odds 70 = .ok (.goto (-23), 3) := dk_167 255 233 (dk_at dksX10_odds_3 3 rfl rfl)
theorem dX10_odds_73 : decode cX10_odds 73 = .ok (.lload_n 3, 1) := dk_33 (dk_at dksX10_odds_3 6 rfl rfl)
theorem dX10_odds_74 : decode cX10_odds 74 = .ok (.lconst 0, 1) := dk_9 (dk_at dksX10_odds_3 7 rfl rfl)
theorem dX10_odds_75 : decode cX10_odds 75 = .ok (.lcmp, 1) := dk_148 (dk_at dksX10_odds_3 8 rfl rfl)
theorem dX10_odds_76 : decode cX10_odds 76 = .ok (.ifCond .ne 8, 3) := dk_154 0 8 (dk_at dksX10_odds_3 9 rfl rfl)
theorem dX10_odds_79 : decode cX10_odds 79 = .ok (.iload_n 2, 1) := dk_28 (dk_at dksX10_odds_3 12 rfl rfl)
theorem dX10_odds_80 : decode cX10_odds 80 = .ok (.i2l, 1) := dk_133 (dk_at dksX10_odds_3 13 rfl rfl)
theorem dX10_odds_81 : decode cX10_odds 81 = .ok (.goto 15, 3) := dk_167 0 15 (dk_at dksX10_odds_3 14 rfl rfl)
theorem dX10_odds_84 : decode cX10_odds 84 = .ok (.aload_n 0, 1) := dk_42 (dk_at dksX10_odds_3 17 rfl rfl)
theorem dX10_odds_85 : decode cX10_odds 85 = .ok (.iload_n 1, 1) := dk_27 (dk_at dksX10_odds_3 18 rfl rfl)
theorem dX10_odds_86 : decode cX10_odds 86 = .ok (.iconst (-1), 1) := dk_2 (dk_at dksX10_odds_3 19 rfl rfl)
theorem dX10_odds_87 : decode cX10_odds 87 = .ok (.iconst 0, 1) := dk_3 (dk_at dksX10_odds_3 20 rfl rfl)
theorem dX10_odds_88 : decode cX10_odds 88 = .ok (.invokevirtual 488, 3) := dk_182 1 232 (dk_at dksX10_odds_3 21 rfl rfl)
theorem dX10_odds_91 : decode cX10_odds 91 = .ok (.lload_n 3, 1) := dk_33 (dk_at dksX10_odds_4 0 rfl rfl)
theorem dX10_odds_92 : decode cX10_odds 92 = .ok (.iload_n 2, 1) := dk_28 (dk_at dksX10_odds_4 1 rfl rfl)
theorem dX10_odds_93 : decode cX10_odds 93 = .ok (.invokestatic 457, 3) := dk_184 1 201 (dk_at dksX10_odds_4 2 rfl rfl)
theorem dX10_odds_96 : decode cX10_odds 96 = .ok (.lreturn, 1) := dk_173 (dk_at dksX10_odds_4 5 rfl rfl)
abbrev cX10_weightOf : ByteArray := prog_19_method_103_code
def yX10_weightOf : MethodName := ⟨RX10, "weightOf", "(III)J"⟩
def dkwX10_weightOf_4 : List UInt8 := [132, 6, 1, 167, 255, 174, 22, 4, 173]
abbrev dktX10_weightOf_4 : List UInt8 := dkwX10_weightOf_4 ++ []
def dkwX10_weightOf_3 : List UInt8 := [133, 167, 0, 20, 16, 16, 42, 180, 0, 56, 7, 27, 104, 4, 96, 21, 6, 96, 46, 100, 133, 105, 55, 4]
abbrev dktX10_weightOf_3 : List UInt8 := dkwX10_weightOf_3 ++ dktX10_weightOf_4
def dkwX10_weightOf_2 : List UInt8 := [167, 0, 48, 22, 4, 21, 7, 4, 160, 0, 20, 42, 180, 0, 56, 7, 27, 104, 4, 96, 21, 6, 96, 46]
abbrev dktX10_weightOf_2 : List UInt8 := dkwX10_weightOf_2 ++ dktX10_weightOf_3
def dkwX10_weightOf_1 : List UInt8 := [160, 0, 7, 29, 167, 0, 10, 42, 180, 0, 99, 21, 6, 46, 54, 7, 21, 7, 2, 160, 0, 6]
abbrev dktX10_weightOf_1 : List UInt8 := dkwX10_weightOf_1 ++ dktX10_weightOf_2
def dkwX10_weightOf_0 : List UInt8 := [42, 180, 0, 56, 7, 27, 104, 46, 133, 55, 4, 3, 54, 6, 21, 6, 6, 162, 0, 82, 21, 6, 28]
abbrev dktX10_weightOf_0 : List UInt8 := dkwX10_weightOf_0 ++ dktX10_weightOf_1
theorem dksX10_weightOf_0 : cX10_weightOf.data.toList.drop 0 = dktX10_weightOf_0 := by decide +kernel
theorem dksX10_weightOf_1 : cX10_weightOf.data.toList.drop 23 = dktX10_weightOf_1 := dk_seg dksX10_weightOf_0 23 rfl rfl
theorem dksX10_weightOf_2 : cX10_weightOf.data.toList.drop 45 = dktX10_weightOf_2 := dk_seg dksX10_weightOf_1 22 rfl rfl
theorem dksX10_weightOf_3 : cX10_weightOf.data.toList.drop 69 = dktX10_weightOf_3 := dk_seg dksX10_weightOf_2 24 rfl rfl
theorem dksX10_weightOf_4 : cX10_weightOf.data.toList.drop 93 = dktX10_weightOf_4 := dk_seg dksX10_weightOf_3 24 rfl rfl
theorem dX10_weightOf_0 : decode cX10_weightOf 0 = .ok (.aload_n 0, 1) := dk_42 (dk_at dksX10_weightOf_0 0 rfl rfl)
theorem dX10_weightOf_1 : decode cX10_weightOf 1 = .ok (.getfield 56, 3) := dk_180 0 56 (dk_at dksX10_weightOf_0 1 rfl rfl)
theorem dX10_weightOf_4 : decode cX10_weightOf 4 = .ok (.iconst 4, 1) := dk_7 (dk_at dksX10_weightOf_0 4 rfl rfl)
theorem dX10_weightOf_5 : decode cX10_weightOf 5 = .ok (.iload_n 1, 1) := dk_27 (dk_at dksX10_weightOf_0 5 rfl rfl)
theorem dX10_weightOf_6 : decode cX10_weightOf 6 = .ok (.imul, 1) := dk_104 (dk_at dksX10_weightOf_0 6 rfl rfl)
theorem dX10_weightOf_7 : decode cX10_weightOf 7 = .ok (.iaload, 1) := dk_46 (dk_at dksX10_weightOf_0 7 rfl rfl)
theorem dX10_weightOf_8 : decode cX10_weightOf 8 = .ok (.i2l, 1) := dk_133 (dk_at dksX10_weightOf_0 8 rfl rfl)
theorem dX10_weightOf_9 : decode cX10_weightOf 9 = .ok (.lstore 4, 2) := dk_55 4 (dk_at dksX10_weightOf_0 9 rfl rfl)
theorem dX10_weightOf_11 : decode cX10_weightOf 11 = .ok (.iconst 0, 1) := dk_3 (dk_at dksX10_weightOf_0 11 rfl rfl)
theorem dX10_weightOf_12 : decode cX10_weightOf 12 = .ok (.istore 6, 2) := dk_54 6 (dk_at dksX10_weightOf_0 12 rfl rfl)
theorem dX10_weightOf_14 : decode cX10_weightOf 14 = .ok (.iload 6, 2) := dk_21 6 (dk_at dksX10_weightOf_0 14 rfl rfl)
theorem dX10_weightOf_16 : decode cX10_weightOf 16 = .ok (.iconst 3, 1) := dk_6 (dk_at dksX10_weightOf_0 16 rfl rfl)
theorem dX10_weightOf_17 : decode cX10_weightOf 17 = .ok (.if_icmp .ge 82, 3) := dk_162 0 82 (dk_at dksX10_weightOf_0 17 rfl rfl)
theorem dX10_weightOf_20 : decode cX10_weightOf 20 = .ok (.iload 6, 2) := dk_21 6 (dk_at dksX10_weightOf_0 20 rfl rfl)
theorem dX10_weightOf_22 : decode cX10_weightOf 22 = .ok (.iload_n 2, 1) := dk_28 (dk_at dksX10_weightOf_0 22 rfl rfl)
theorem dX10_weightOf_23 : decode cX10_weightOf 23 = .ok (.if_icmp .ne 7, 3) := dk_160 0 7 (dk_at dksX10_weightOf_1 0 rfl rfl)
theorem dX10_weightOf_26 : decode cX10_weightOf 26 = .ok (.iload_n 3, 1) := dk_29 (dk_at dksX10_weightOf_1 3 rfl rfl)
theorem dX10_weightOf_27 : decode cX10_weightOf 27 = .ok (.goto 10, 3) := dk_167 0 10 (dk_at dksX10_weightOf_1 4 rfl rfl)
theorem dX10_weightOf_30 : decode cX10_weightOf 30 = .ok (.aload_n 0, 1) := dk_42 (dk_at dksX10_weightOf_1 7 rfl rfl)
theorem dX10_weightOf_31 : decode cX10_weightOf 31 = .ok (.getfield 99, 3) := dk_180 0 99 (dk_at dksX10_weightOf_1 8 rfl rfl)
theorem dX10_weightOf_34 : decode cX10_weightOf 34 = .ok (.iload 6, 2) := dk_21 6 (dk_at dksX10_weightOf_1 11 rfl rfl)
theorem dX10_weightOf_36 : decode cX10_weightOf 36 = .ok (.iaload, 1) := dk_46 (dk_at dksX10_weightOf_1 13 rfl rfl)
theorem dX10_weightOf_37 : decode cX10_weightOf 37 = .ok (.istore 7, 2) := dk_54 7 (dk_at dksX10_weightOf_1 14 rfl rfl)
theorem dX10_weightOf_39 : decode cX10_weightOf 39 = .ok (.iload 7, 2) := dk_21 7 (dk_at dksX10_weightOf_1 16 rfl rfl)
theorem dX10_weightOf_41 : decode cX10_weightOf 41 = .ok (.iconst (-1), 1) := dk_2 (dk_at dksX10_weightOf_1 18 rfl rfl)
theorem dX10_weightOf_42 : decode cX10_weightOf 42 = .ok (.if_icmp .ne 6, 3) := dk_160 0 6 (dk_at dksX10_weightOf_1 19 rfl rfl)
theorem dX10_weightOf_45 : decode cX10_weightOf 45 = .ok (.goto 48, 3) := dk_167 0 48 (dk_at dksX10_weightOf_2 0 rfl rfl)
theorem dX10_weightOf_48 : decode cX10_weightOf 48 = .ok (.lload 4, 2) := dk_22 4 (dk_at dksX10_weightOf_2 3 rfl rfl)
theorem dX10_weightOf_50 : decode cX10_weightOf 50 = .ok (.iload 7, 2) := dk_21 7 (dk_at dksX10_weightOf_2 5 rfl rfl)
theorem dX10_weightOf_52 : decode cX10_weightOf 52 = .ok (.iconst 1, 1) := dk_4 (dk_at dksX10_weightOf_2 7 rfl rfl)
theorem dX10_weightOf_53 : decode cX10_weightOf 53 = .ok (.if_icmp .ne 20, 3) := dk_160 0 20 (dk_at dksX10_weightOf_2 8 rfl rfl)
theorem dX10_weightOf_56 : decode cX10_weightOf 56 = .ok (.aload_n 0, 1) := dk_42 (dk_at dksX10_weightOf_2 11 rfl rfl)
theorem dX10_weightOf_57 : decode cX10_weightOf 57 = .ok (.getfield 56, 3) := dk_180 0 56 (dk_at dksX10_weightOf_2 12 rfl rfl)
theorem dX10_weightOf_60 : decode cX10_weightOf 60 = .ok (.iconst 4, 1) := dk_7 (dk_at dksX10_weightOf_2 15 rfl rfl)
theorem dX10_weightOf_61 : decode cX10_weightOf 61 = .ok (.iload_n 1, 1) := dk_27 (dk_at dksX10_weightOf_2 16 rfl rfl)
theorem dX10_weightOf_62 : decode cX10_weightOf 62 = .ok (.imul, 1) := dk_104 (dk_at dksX10_weightOf_2 17 rfl rfl)
theorem dX10_weightOf_63 : decode cX10_weightOf 63 = .ok (.iconst 1, 1) := dk_4 (dk_at dksX10_weightOf_2 18 rfl rfl)
theorem dX10_weightOf_64 : decode cX10_weightOf 64 = .ok (.iadd, 1) := dk_96 (dk_at dksX10_weightOf_2 19 rfl rfl)
theorem dX10_weightOf_65 : decode cX10_weightOf 65 = .ok (.iload 6, 2) := dk_21 6 (dk_at dksX10_weightOf_2 20 rfl rfl)
theorem dX10_weightOf_67 : decode cX10_weightOf 67 = .ok (.iadd, 1) := dk_96 (dk_at dksX10_weightOf_2 22 rfl rfl)
theorem dX10_weightOf_68 : decode cX10_weightOf 68 = .ok (.iaload, 1) := dk_46 (dk_at dksX10_weightOf_2 23 rfl rfl)
theorem dX10_weightOf_69 : decode cX10_weightOf 69 = .ok (.i2l, 1) := dk_133 (dk_at dksX10_weightOf_3 0 rfl rfl)
theorem dX10_weightOf_70 : decode cX10_weightOf 70 = .ok (.goto 20, 3) := dk_167 0 20 (dk_at dksX10_weightOf_3 1 rfl rfl)
theorem dX10_weightOf_73 : decode cX10_weightOf 73 = .ok (.bipush 16, 2) := dk_16 16 (dk_at dksX10_weightOf_3 4 rfl rfl)
theorem dX10_weightOf_75 : decode cX10_weightOf 75 = .ok (.aload_n 0, 1) := dk_42 (dk_at dksX10_weightOf_3 6 rfl rfl)
theorem dX10_weightOf_76 : decode cX10_weightOf 76 = .ok (.getfield 56, 3) := dk_180 0 56 (dk_at dksX10_weightOf_3 7 rfl rfl)
theorem dX10_weightOf_79 : decode cX10_weightOf 79 = .ok (.iconst 4, 1) := dk_7 (dk_at dksX10_weightOf_3 10 rfl rfl)
theorem dX10_weightOf_80 : decode cX10_weightOf 80 = .ok (.iload_n 1, 1) := dk_27 (dk_at dksX10_weightOf_3 11 rfl rfl)
theorem dX10_weightOf_81 : decode cX10_weightOf 81 = .ok (.imul, 1) := dk_104 (dk_at dksX10_weightOf_3 12 rfl rfl)
theorem dX10_weightOf_82 : decode cX10_weightOf 82 = .ok (.iconst 1, 1) := dk_4 (dk_at dksX10_weightOf_3 13 rfl rfl)
theorem dX10_weightOf_83 : decode cX10_weightOf 83 = .ok (.iadd, 1) := dk_96 (dk_at dksX10_weightOf_3 14 rfl rfl)
theorem dX10_weightOf_84 : decode cX10_weightOf 84 = .ok (.iload 6, 2) := dk_21 6 (dk_at dksX10_weightOf_3 15 rfl rfl)
theorem dX10_weightOf_86 : decode cX10_weightOf 86 = .ok (.iadd, 1) := dk_96 (dk_at dksX10_weightOf_3 17 rfl rfl)
theorem dX10_weightOf_87 : decode cX10_weightOf 87 = .ok (.iaload, 1) := dk_46 (dk_at dksX10_weightOf_3 18 rfl rfl)
theorem dX10_weightOf_88 : decode cX10_weightOf 88 = .ok (.isub, 1) := dk_100 (dk_at dksX10_weightOf_3 19 rfl rfl)
theorem dX10_weightOf_89 : decode cX10_weightOf 89 = .ok (.i2l, 1) := dk_133 (dk_at dksX10_weightOf_3 20 rfl rfl)
theorem dX10_weightOf_90 : decode cX10_weightOf 90 = .ok (.lmul, 1) := dk_105 (dk_at dksX10_weightOf_3 21 rfl rfl)
theorem dX10_weightOf_91 : decode cX10_weightOf 91 = .ok (.lstore 4, 2) := dk_55 4 (dk_at dksX10_weightOf_3 22 rfl rfl)
theorem dX10_weightOf_93 : decode cX10_weightOf 93 = .ok (.iinc 6 1, 3) := dk_132 6 1 (dk_at dksX10_weightOf_4 0 rfl rfl)
theorem dX10_weightOf_96 : decode cX10_weightOf 96 = .ok (.goto (-82), 3) := dk_167 255 174 (dk_at dksX10_weightOf_4 3 rfl rfl)
theorem dX10_weightOf_99 : decode cX10_weightOf 99 = .ok (.lload 4, 2) := dk_22 4 (dk_at dksX10_weightOf_4 6 rfl rfl)
theorem dX10_weightOf_101 : decode cX10_weightOf 101 = .ok (.lreturn, 1) := dk_173 (dk_at dksX10_weightOf_4 8 rfl rfl)
abbrev cX10_likeliest : ByteArray := prog_19_method_106_code
def yX10_likeliest : MethodName := ⟨RX10, "likeliest", "()I"⟩
def dkwX10_likeliest_2 : List UInt8 := [2, 172]
abbrev dktX10_likeliest_2 : List UInt8 := dkwX10_likeliest_2 ++ []
def dkwX10_likeliest_1 : List UInt8 := [148, 158, 0, 17, 42, 29, 2, 3, 182, 1, 232, 31, 148, 154, 0, 5, 29, 172, 132, 3, 1, 167, 255, 225]
abbrev dktX10_likeliest_1 : List UInt8 := dkwX10_likeliest_1 ++ dktX10_likeliest_2
def dkwX10_likeliest_0 : List UInt8 := [42, 3, 181, 0, 3, 42, 2, 3, 182, 1, 235, 64, 3, 62, 29, 42, 180, 0, 226, 162, 0, 29, 31, 9]
abbrev dktX10_likeliest_0 : List UInt8 := dkwX10_likeliest_0 ++ dktX10_likeliest_1
theorem dksX10_likeliest_0 : cX10_likeliest.data.toList.drop 0 = dktX10_likeliest_0 := by decide +kernel
theorem dksX10_likeliest_1 : cX10_likeliest.data.toList.drop 24 = dktX10_likeliest_1 := dk_seg dksX10_likeliest_0 24 rfl rfl
theorem dksX10_likeliest_2 : cX10_likeliest.data.toList.drop 48 = dktX10_likeliest_2 := dk_seg dksX10_likeliest_1 24 rfl rfl
theorem dX10_likeliest_0 : decode cX10_likeliest 0 = .ok (.aload_n 0, 1) := dk_42 (dk_at dksX10_likeliest_0 0 rfl rfl)
theorem dX10_likeliest_1 : decode cX10_likeliest 1 = .ok (.iconst 0, 1) := dk_3 (dk_at dksX10_likeliest_0 1 rfl rfl)
theorem dX10_likeliest_2 : decode cX10_likeliest 2 = .ok (.putfield 3, 3) := dk_181 0 3 (dk_at dksX10_likeliest_0 2 rfl rfl)
theorem dX10_likeliest_5 : decode cX10_likeliest 5 = .ok (.aload_n 0, 1) := dk_42 (dk_at dksX10_likeliest_0 5 rfl rfl)
theorem dX10_likeliest_6 : decode cX10_likeliest 6 = .ok (.iconst (-1), 1) := dk_2 (dk_at dksX10_likeliest_0 6 rfl rfl)
theorem dX10_likeliest_7 : decode cX10_likeliest 7 = .ok (.iconst 0, 1) := dk_3 (dk_at dksX10_likeliest_0 7 rfl rfl)
theorem dX10_likeliest_8 : decode cX10_likeliest 8 = .ok (.invokevirtual 491, 3) := dk_182 1 235 (dk_at dksX10_likeliest_0 8 rfl rfl)
theorem dX10_likeliest_11 : decode cX10_likeliest 11 = .ok (.lstore_n 1, 1) := dk_64 (dk_at dksX10_likeliest_0 11 rfl rfl)
theorem dX10_likeliest_12 : decode cX10_likeliest 12 = .ok (.iconst 0, 1) := dk_3 (dk_at dksX10_likeliest_0 12 rfl rfl)
theorem dX10_likeliest_13 : decode cX10_likeliest 13 = .ok (.istore_n 3, 1) := dk_62 (dk_at dksX10_likeliest_0 13 rfl rfl)
theorem dX10_likeliest_14 : decode cX10_likeliest 14 = .ok (.iload_n 3, 1) := dk_29 (dk_at dksX10_likeliest_0 14 rfl rfl)
theorem dX10_likeliest_15 : decode cX10_likeliest 15 = .ok (.aload_n 0, 1) := dk_42 (dk_at dksX10_likeliest_0 15 rfl rfl)
theorem dX10_likeliest_16 : decode cX10_likeliest 16 = .ok (.getfield 226, 3) := dk_180 0 226 (dk_at dksX10_likeliest_0 16 rfl rfl)
theorem dX10_likeliest_19 : decode cX10_likeliest 19 = .ok (.if_icmp .ge 29, 3) := dk_162 0 29 (dk_at dksX10_likeliest_0 19 rfl rfl)
theorem dX10_likeliest_22 : decode cX10_likeliest 22 = .ok (.lload_n 1, 1) := dk_31 (dk_at dksX10_likeliest_0 22 rfl rfl)
theorem dX10_likeliest_23 : decode cX10_likeliest 23 = .ok (.lconst 0, 1) := dk_9 (dk_at dksX10_likeliest_0 23 rfl rfl)
theorem dX10_likeliest_24 : decode cX10_likeliest 24 = .ok (.lcmp, 1) := dk_148 (dk_at dksX10_likeliest_1 0 rfl rfl)
theorem dX10_likeliest_25 : decode cX10_likeliest 25 = .ok (.ifCond .le 17, 3) := dk_158 0 17 (dk_at dksX10_likeliest_1 1 rfl rfl)
theorem dX10_likeliest_28 : decode cX10_likeliest 28 = .ok (.aload_n 0, 1) := dk_42 (dk_at dksX10_likeliest_1 4 rfl rfl)
theorem dX10_likeliest_29 : decode cX10_likeliest 29 = .ok (.iload_n 3, 1) := dk_29 (dk_at dksX10_likeliest_1 5 rfl rfl)
theorem dX10_likeliest_30 : decode cX10_likeliest 30 = .ok (.iconst (-1), 1) := dk_2 (dk_at dksX10_likeliest_1 6 rfl rfl)
theorem dX10_likeliest_31 : decode cX10_likeliest 31 = .ok (.iconst 0, 1) := dk_3 (dk_at dksX10_likeliest_1 7 rfl rfl)
theorem dX10_likeliest_32 : decode cX10_likeliest 32 = .ok (.invokevirtual 488, 3) := dk_182 1 232 (dk_at dksX10_likeliest_1 8 rfl rfl)
theorem dX10_likeliest_35 : decode cX10_likeliest 35 = .ok (.lload_n 1, 1) := dk_31 (dk_at dksX10_likeliest_1 11 rfl rfl)
theorem dX10_likeliest_36 : decode cX10_likeliest 36 = .ok (.lcmp, 1) := dk_148 (dk_at dksX10_likeliest_1 12 rfl rfl)
theorem dX10_likeliest_37 : decode cX10_likeliest 37 = .ok (.ifCond .ne 5, 3) := dk_154 0 5 (dk_at dksX10_likeliest_1 13 rfl rfl)
theorem dX10_likeliest_40 : decode cX10_likeliest 40 = .ok (.iload_n 3, 1) := dk_29 (dk_at dksX10_likeliest_1 16 rfl rfl)
theorem dX10_likeliest_41 : decode cX10_likeliest 41 = .ok (.ireturn, 1) := dk_172 (dk_at dksX10_likeliest_1 17 rfl rfl)
theorem dX10_likeliest_42 : decode cX10_likeliest 42 = .ok (.iinc 3 1, 3) := dk_132 3 1 (dk_at dksX10_likeliest_1 18 rfl rfl)
theorem dX10_likeliest_45 : decode cX10_likeliest 45 = .ok (.goto (-31), 3) := dk_167 255 225 (dk_at dksX10_likeliest_1 21 rfl rfl)
theorem dX10_likeliest_48 : decode cX10_likeliest 48 = .ok (.iconst (-1), 1) := dk_2 (dk_at dksX10_likeliest_2 0 rfl rfl)
theorem dX10_likeliest_49 : decode cX10_likeliest 49 = .ok (.ireturn, 1) := dk_172 (dk_at dksX10_likeliest_2 1 rfl rfl)
abbrev cX10_mostBy : ByteArray := prog_19_method_105_code
def yX10_mostBy : MethodName := ⟨RX10, "mostBy", "(II)J"⟩
def dkwX10_mostBy_1 : List UInt8 := [158, 0, 14, 42, 21, 5, 27, 28, 182, 1, 232, 167, 0, 4, 33, 66, 132, 5, 1, 167, 255, 218, 33, 173]
abbrev dktX10_mostBy_1 : List UInt8 := dkwX10_mostBy_1 ++ []
def dkwX10_mostBy_0 : List UInt8 := [9, 66, 3, 54, 5, 21, 5, 42, 180, 0, 226, 162, 0, 35, 42, 21, 5, 27, 28, 182, 1, 232, 33, 148]
abbrev dktX10_mostBy_0 : List UInt8 := dkwX10_mostBy_0 ++ dktX10_mostBy_1
theorem dksX10_mostBy_0 : cX10_mostBy.data.toList.drop 0 = dktX10_mostBy_0 := by decide +kernel
theorem dksX10_mostBy_1 : cX10_mostBy.data.toList.drop 24 = dktX10_mostBy_1 := dk_seg dksX10_mostBy_0 24 rfl rfl
theorem dX10_mostBy_0 : decode cX10_mostBy 0 = .ok (.lconst 0, 1) := dk_9 (dk_at dksX10_mostBy_0 0 rfl rfl)
theorem dX10_mostBy_1 : decode cX10_mostBy 1 = .ok (.lstore_n 3, 1) := dk_66 (dk_at dksX10_mostBy_0 1 rfl rfl)
theorem dX10_mostBy_2 : decode cX10_mostBy 2 = .ok (.iconst 0, 1) := dk_3 (dk_at dksX10_mostBy_0 2 rfl rfl)
theorem dX10_mostBy_3 : decode cX10_mostBy 3 = .ok (.istore 5, 2) := dk_54 5 (dk_at dksX10_mostBy_0 3 rfl rfl)
theorem dX10_mostBy_5 : decode cX10_mostBy 5 = .ok (.iload 5, 2) := dk_21 5 (dk_at dksX10_mostBy_0 5 rfl rfl)
theorem dX10_mostBy_7 : decode cX10_mostBy 7 = .ok (.aload_n 0, 1) := dk_42 (dk_at dksX10_mostBy_0 7 rfl rfl)
theorem dX10_mostBy_8 : decode cX10_mostBy 8 = .ok (.getfield 226, 3) := dk_180 0 226 (dk_at dksX10_mostBy_0 8 rfl rfl)
theorem dX10_mostBy_11 : decode cX10_mostBy 11 = .ok (.if_icmp .ge 35, 3) := dk_162 0 35 (dk_at dksX10_mostBy_0 11 rfl rfl)
theorem dX10_mostBy_14 : decode cX10_mostBy 14 = .ok (.aload_n 0, 1) := dk_42 (dk_at dksX10_mostBy_0 14 rfl rfl)
theorem dX10_mostBy_15 : decode cX10_mostBy 15 = .ok (.iload 5, 2) := dk_21 5 (dk_at dksX10_mostBy_0 15 rfl rfl)
theorem dX10_mostBy_17 : decode cX10_mostBy 17 = .ok (.iload_n 1, 1) := dk_27 (dk_at dksX10_mostBy_0 17 rfl rfl)
theorem dX10_mostBy_18 : decode cX10_mostBy 18 = .ok (.iload_n 2, 1) := dk_28 (dk_at dksX10_mostBy_0 18 rfl rfl)
theorem dX10_mostBy_19 : decode cX10_mostBy 19 = .ok (.invokevirtual 488, 3) := dk_182 1 232 (dk_at dksX10_mostBy_0 19 rfl rfl)
theorem dX10_mostBy_22 : decode cX10_mostBy 22 = .ok (.lload_n 3, 1) := dk_33 (dk_at dksX10_mostBy_0 22 rfl rfl)
theorem dX10_mostBy_23 : decode cX10_mostBy 23 = .ok (.lcmp, 1) := dk_148 (dk_at dksX10_mostBy_0 23 rfl rfl)
theorem dX10_mostBy_24 : decode cX10_mostBy 24 = .ok (.ifCond .le 14, 3) := dk_158 0 14 (dk_at dksX10_mostBy_1 0 rfl rfl)
theorem dX10_mostBy_27 : decode cX10_mostBy 27 = .ok (.aload_n 0, 1) := dk_42 (dk_at dksX10_mostBy_1 3 rfl rfl)
theorem dX10_mostBy_28 : decode cX10_mostBy 28 = .ok (.iload 5, 2) := dk_21 5 (dk_at dksX10_mostBy_1 4 rfl rfl)
theorem dX10_mostBy_30 : decode cX10_mostBy 30 = .ok (.iload_n 1, 1) := dk_27 (dk_at dksX10_mostBy_1 6 rfl rfl)
theorem dX10_mostBy_31 : decode cX10_mostBy 31 = .ok (.iload_n 2, 1) := dk_28 (dk_at dksX10_mostBy_1 7 rfl rfl)
theorem dX10_mostBy_32 : decode cX10_mostBy 32 = .ok (.invokevirtual 488, 3) := dk_182 1 232 (dk_at dksX10_mostBy_1 8 rfl rfl)
theorem dX10_mostBy_35 : decode cX10_mostBy 35 = .ok (.goto 4, 3) := dk_167 0 4 (dk_at dksX10_mostBy_1 11 rfl rfl)
theorem dX10_mostBy_38 : decode cX10_mostBy 38 = .ok (.lload_n 3, 1) := dk_33 (dk_at dksX10_mostBy_1 14 rfl rfl)
theorem dX10_mostBy_39 : decode cX10_mostBy 39 = .ok (.lstore_n 3, 1) := dk_66 (dk_at dksX10_mostBy_1 15 rfl rfl)
theorem dX10_mostBy_40 : decode cX10_mostBy 40 = .ok (.iinc 5 1, 3) := dk_132 5 1 (dk_at dksX10_mostBy_1 16 rfl rfl)
theorem dX10_mostBy_43 : decode cX10_mostBy 43 = .ok (.goto (-38), 3) := dk_167 255 218 (dk_at dksX10_mostBy_1 19 rfl rfl)
theorem dX10_mostBy_46 : decode cX10_mostBy 46 = .ok (.lload_n 3, 1) := dk_33 (dk_at dksX10_mostBy_1 22 rfl rfl)
theorem dX10_mostBy_47 : decode cX10_mostBy 47 = .ok (.lreturn, 1) := dk_173 (dk_at dksX10_mostBy_1 23 rfl rfl)
abbrev cX10_ask : ByteArray := prog_19_method_107_code
def yX10_ask : MethodName := ⟨RX10, "ask", "()I"⟩
def dkwX10_ask_3 : List UInt8 := [132, 4, 1, 167, 255, 195, 27, 172]
abbrev dktX10_ask_3 : List UInt8 := dkwX10_ask_3 ++ []
def dkwX10_ask_2 : List UInt8 := [55, 5, 27, 2, 159, 0, 13, 22, 5, 32, 148, 157, 0, 6, 167, 0, 9, 21, 4, 60, 22, 5, 65]
abbrev dktX10_ask_2 : List UInt8 := dkwX10_ask_2 ++ dktX10_ask_3
def dkwX10_ask_1 : List UInt8 := [46, 2, 159, 0, 6, 167, 0, 41, 42, 21, 4, 3, 182, 1, 235, 42, 21, 4, 4, 182, 1, 235, 97]
abbrev dktX10_ask_1 : List UInt8 := dkwX10_ask_1 ++ dktX10_ask_2
def dkwX10_ask_0 : List UInt8 := [42, 3, 181, 0, 3, 2, 60, 9, 65, 3, 54, 4, 21, 4, 6, 162, 0, 61, 42, 180, 0, 99, 21, 4]
abbrev dktX10_ask_0 : List UInt8 := dkwX10_ask_0 ++ dktX10_ask_1
theorem dksX10_ask_0 : cX10_ask.data.toList.drop 0 = dktX10_ask_0 := by decide +kernel
theorem dksX10_ask_1 : cX10_ask.data.toList.drop 24 = dktX10_ask_1 := dk_seg dksX10_ask_0 24 rfl rfl
theorem dksX10_ask_2 : cX10_ask.data.toList.drop 47 = dktX10_ask_2 := dk_seg dksX10_ask_1 23 rfl rfl
theorem dksX10_ask_3 : cX10_ask.data.toList.drop 70 = dktX10_ask_3 := dk_seg dksX10_ask_2 23 rfl rfl
theorem dX10_ask_0 : decode cX10_ask 0 = .ok (.aload_n 0, 1) := dk_42 (dk_at dksX10_ask_0 0 rfl rfl)
theorem dX10_ask_1 : decode cX10_ask 1 = .ok (.iconst 0, 1) := dk_3 (dk_at dksX10_ask_0 1 rfl rfl)
theorem dX10_ask_2 : decode cX10_ask 2 = .ok (.putfield 3, 3) := dk_181 0 3 (dk_at dksX10_ask_0 2 rfl rfl)
theorem dX10_ask_5 : decode cX10_ask 5 = .ok (.iconst (-1), 1) := dk_2 (dk_at dksX10_ask_0 5 rfl rfl)
theorem dX10_ask_6 : decode cX10_ask 6 = .ok (.istore_n 1, 1) := dk_60 (dk_at dksX10_ask_0 6 rfl rfl)
theorem dX10_ask_7 : decode cX10_ask 7 = .ok (.lconst 0, 1) := dk_9 (dk_at dksX10_ask_0 7 rfl rfl)
theorem dX10_ask_8 : decode cX10_ask 8 = .ok (.lstore_n 2, 1) := dk_65 (dk_at dksX10_ask_0 8 rfl rfl)
theorem dX10_ask_9 : decode cX10_ask 9 = .ok (.iconst 0, 1) := dk_3 (dk_at dksX10_ask_0 9 rfl rfl)
theorem dX10_ask_10 : decode cX10_ask 10 = .ok (.istore 4, 2) := dk_54 4 (dk_at dksX10_ask_0 10 rfl rfl)
theorem dX10_ask_12 : decode cX10_ask 12 = .ok (.iload 4, 2) := dk_21 4 (dk_at dksX10_ask_0 12 rfl rfl)
theorem dX10_ask_14 : decode cX10_ask 14 = .ok (.iconst 3, 1) := dk_6 (dk_at dksX10_ask_0 14 rfl rfl)
theorem dX10_ask_15 : decode cX10_ask 15 = .ok (.if_icmp .ge 61, 3) := dk_162 0 61 (dk_at dksX10_ask_0 15 rfl rfl)
theorem dX10_ask_18 : decode cX10_ask 18 = .ok (.aload_n 0, 1) := dk_42 (dk_at dksX10_ask_0 18 rfl rfl)
theorem dX10_ask_19 : decode cX10_ask 19 = .ok (.getfield 99, 3) := dk_180 0 99 (dk_at dksX10_ask_0 19 rfl rfl)
theorem dX10_ask_22 : decode cX10_ask 22 = .ok (.iload 4, 2) := dk_21 4 (dk_at dksX10_ask_0 22 rfl rfl)
theorem dX10_ask_24 : decode cX10_ask 24 = .ok (.iaload, 1) := dk_46 (dk_at dksX10_ask_1 0 rfl rfl)
theorem dX10_ask_25 : decode cX10_ask 25 = .ok (.iconst (-1), 1) := dk_2 (dk_at dksX10_ask_1 1 rfl rfl)
theorem dX10_ask_26 : decode cX10_ask 26 = .ok (.if_icmp .eq 6, 3) := dk_159 0 6 (dk_at dksX10_ask_1 2 rfl rfl)
theorem dX10_ask_29 : decode cX10_ask 29 = .ok (.goto 41, 3) := dk_167 0 41 (dk_at dksX10_ask_1 5 rfl rfl)
theorem dX10_ask_32 : decode cX10_ask 32 = .ok (.aload_n 0, 1) := dk_42 (dk_at dksX10_ask_1 8 rfl rfl)
theorem dX10_ask_33 : decode cX10_ask 33 = .ok (.iload 4, 2) := dk_21 4 (dk_at dksX10_ask_1 9 rfl rfl)
theorem dX10_ask_35 : decode cX10_ask 35 = .ok (.iconst 0, 1) := dk_3 (dk_at dksX10_ask_1 11 rfl rfl)
theorem dX10_ask_36 : decode cX10_ask 36 = .ok (.invokevirtual 491, 3) := dk_182 1 235 (dk_at dksX10_ask_1 12 rfl rfl)
theorem dX10_ask_39 : decode cX10_ask 39 = .ok (.aload_n 0, 1) := dk_42 (dk_at dksX10_ask_1 15 rfl rfl)
theorem dX10_ask_40 : decode cX10_ask 40 = .ok (.iload 4, 2) := dk_21 4 (dk_at dksX10_ask_1 16 rfl rfl)
theorem dX10_ask_42 : decode cX10_ask 42 = .ok (.iconst 1, 1) := dk_4 (dk_at dksX10_ask_1 18 rfl rfl)
theorem dX10_ask_43 : decode cX10_ask 43 = .ok (.invokevirtual 491, 3) := dk_182 1 235 (dk_at dksX10_ask_1 19 rfl rfl)
theorem dX10_ask_46 : decode cX10_ask 46 = .ok (.ladd, 1) := dk_97 (dk_at dksX10_ask_1 22 rfl rfl)
theorem dX10_ask_47 : decode cX10_ask 47 = .ok (.lstore 5, 2) := dk_55 5 (dk_at dksX10_ask_2 0 rfl rfl)
theorem dX10_ask_49 : decode cX10_ask 49 = .ok (.iload_n 1, 1) := dk_27 (dk_at dksX10_ask_2 2 rfl rfl)
theorem dX10_ask_50 : decode cX10_ask 50 = .ok (.iconst (-1), 1) := dk_2 (dk_at dksX10_ask_2 3 rfl rfl)
theorem dX10_ask_51 : decode cX10_ask 51 = .ok (.if_icmp .eq 13, 3) := dk_159 0 13 (dk_at dksX10_ask_2 4 rfl rfl)
theorem dX10_ask_54 : decode cX10_ask 54 = .ok (.lload 5, 2) := dk_22 5 (dk_at dksX10_ask_2 7 rfl rfl)
theorem dX10_ask_56 : decode cX10_ask 56 = .ok (.lload_n 2, 1) := dk_32 (dk_at dksX10_ask_2 9 rfl rfl)
theorem dX10_ask_57 : decode cX10_ask 57 = .ok (.lcmp, 1) := dk_148 (dk_at dksX10_ask_2 10 rfl rfl)
theorem dX10_ask_58 : decode cX10_ask 58 = .ok (.ifCond .gt 6, 3) := dk_157 0 6 (dk_at dksX10_ask_2 11 rfl rfl)
theorem dX10_ask_61 : decode cX10_ask 61 = .ok (.goto 9, 3) := dk_167 0 9 (dk_at dksX10_ask_2 14 rfl rfl)
theorem dX10_ask_64 : decode cX10_ask 64 = .ok (.iload 4, 2) := dk_21 4 (dk_at dksX10_ask_2 17 rfl rfl)
theorem dX10_ask_66 : decode cX10_ask 66 = .ok (.istore_n 1, 1) := dk_60 (dk_at dksX10_ask_2 19 rfl rfl)
theorem dX10_ask_67 : decode cX10_ask 67 = .ok (.lload 5, 2) := dk_22 5 (dk_at dksX10_ask_2 20 rfl rfl)
theorem dX10_ask_69 : decode cX10_ask 69 = .ok (.lstore_n 2, 1) := dk_65 (dk_at dksX10_ask_2 22 rfl rfl)
theorem dX10_ask_70 : decode cX10_ask 70 = .ok (.iinc 4 1, 3) := dk_132 4 1 (dk_at dksX10_ask_3 0 rfl rfl)
theorem dX10_ask_73 : decode cX10_ask 73 = .ok (.goto (-61), 3) := dk_167 255 195 (dk_at dksX10_ask_3 3 rfl rfl)
theorem dX10_ask_76 : decode cX10_ask 76 = .ok (.iload_n 1, 1) := dk_27 (dk_at dksX10_ask_3 6 rfl rfl)
theorem dX10_ask_77 : decode cX10_ask 77 = .ok (.ireturn, 1) := dk_172 (dk_at dksX10_ask_3 7 rfl rfl)
abbrev cX10_evening : ByteArray := prog_19_method_109_code
def yX10_evening : MethodName := ⟨RX10, "evening", "(II)I"⟩
def dkwX10_evening_2 : List UInt8 := [182, 1, 243, 167, 0, 7, 42, 180, 1, 131, 172]
abbrev dktX10_evening_2 : List UInt8 := dkwX10_evening_2 ++ []
def dkwX10_evening_1 : List UInt8 := [181, 1, 239, 42, 4, 182, 1, 152, 62, 28, 154, 0, 7, 29, 167, 0, 19, 28, 4, 160, 0, 10, 42]
abbrev dktX10_evening_1 : List UInt8 := dkwX10_evening_1 ++ dktX10_evening_2
def dkwX10_evening_0 : List UInt8 := [42, 3, 181, 0, 3, 42, 28, 3, 5, 184, 1, 108, 4, 4, 182, 1, 19, 154, 0, 5, 3, 172, 42, 27]
abbrev dktX10_evening_0 : List UInt8 := dkwX10_evening_0 ++ dktX10_evening_1
theorem dksX10_evening_0 : cX10_evening.data.toList.drop 0 = dktX10_evening_0 := by decide +kernel
theorem dksX10_evening_1 : cX10_evening.data.toList.drop 24 = dktX10_evening_1 := dk_seg dksX10_evening_0 24 rfl rfl
theorem dksX10_evening_2 : cX10_evening.data.toList.drop 47 = dktX10_evening_2 := dk_seg dksX10_evening_1 23 rfl rfl
theorem dX10_evening_0 : decode cX10_evening 0 = .ok (.aload_n 0, 1) := dk_42 (dk_at dksX10_evening_0 0 rfl rfl)
theorem dX10_evening_1 : decode cX10_evening 1 = .ok (.iconst 0, 1) := dk_3 (dk_at dksX10_evening_0 1 rfl rfl)
theorem dX10_evening_2 : decode cX10_evening 2 = .ok (.putfield 3, 3) := dk_181 0 3 (dk_at dksX10_evening_0 2 rfl rfl)
theorem dX10_evening_5 : decode cX10_evening 5 = .ok (.aload_n 0, 1) := dk_42 (dk_at dksX10_evening_0 5 rfl rfl)
theorem dX10_evening_6 : decode cX10_evening 6 = .ok (.iload_n 2, 1) := dk_28 (dk_at dksX10_evening_0 6 rfl rfl)
theorem dX10_evening_7 : decode cX10_evening 7 = .ok (.iconst 0, 1) := dk_3 (dk_at dksX10_evening_0 7 rfl rfl)
theorem dX10_evening_8 : decode cX10_evening 8 = .ok (.iconst 2, 1) := dk_5 (dk_at dksX10_evening_0 8 rfl rfl)
theorem dX10_evening_9 : decode cX10_evening 9 = .ok (.invokestatic 364, 3) := dk_184 1 108 (dk_at dksX10_evening_0 9 rfl rfl)
theorem dX10_evening_12 : decode cX10_evening 12 = .ok (.iconst 1, 1) := dk_4 (dk_at dksX10_evening_0 12 rfl rfl)
theorem dX10_evening_13 : decode cX10_evening 13 = .ok (.iconst 1, 1) := dk_4 (dk_at dksX10_evening_0 13 rfl rfl)
theorem dX10_evening_14 : decode cX10_evening 14 = .ok (.invokevirtual 275, 3) := dk_182 1 19 (dk_at dksX10_evening_0 14 rfl rfl)
theorem dX10_evening_17 : decode cX10_evening 17 = .ok (.ifCond .ne 5, 3) := dk_154 0 5 (dk_at dksX10_evening_0 17 rfl rfl)
theorem dX10_evening_20 : decode cX10_evening 20 = .ok (.iconst 0, 1) := dk_3 (dk_at dksX10_evening_0 20 rfl rfl)
theorem dX10_evening_21 : decode cX10_evening 21 = .ok (.ireturn, 1) := dk_172 (dk_at dksX10_evening_0 21 rfl rfl)
theorem dX10_evening_22 : decode cX10_evening 22 = .ok (.aload_n 0, 1) := dk_42 (dk_at dksX10_evening_0 22 rfl rfl)
theorem dX10_evening_23 : decode cX10_evening 23 = .ok (.iload_n 1, 1) := dk_27 (dk_at dksX10_evening_0 23 rfl rfl)
theorem dX10_evening_24 : decode cX10_evening 24 = .ok (.putfield 495, 3) := dk_181 1 239 (dk_at dksX10_evening_1 0 rfl rfl)
theorem dX10_evening_27 : decode cX10_evening 27 = .ok (.aload_n 0, 1) := dk_42 (dk_at dksX10_evening_1 3 rfl rfl)
theorem dX10_evening_28 : decode cX10_evening 28 = .ok (.iconst 1, 1) := dk_4 (dk_at dksX10_evening_1 4 rfl rfl)
theorem dX10_evening_29 : decode cX10_evening 29 = .ok (.invokevirtual 408, 3) := dk_182 1 152 (dk_at dksX10_evening_1 5 rfl rfl)
theorem dX10_evening_32 : decode cX10_evening 32 = .ok (.istore_n 3, 1) := dk_62 (dk_at dksX10_evening_1 8 rfl rfl)
theorem dX10_evening_33 : decode cX10_evening 33 = .ok (.iload_n 2, 1) := dk_28 (dk_at dksX10_evening_1 9 rfl rfl)
theorem dX10_evening_34 : decode cX10_evening 34 = .ok (.ifCond .ne 7, 3) := dk_154 0 7 (dk_at dksX10_evening_1 10 rfl rfl)
theorem dX10_evening_37 : decode cX10_evening 37 = .ok (.iload_n 3, 1) := dk_29 (dk_at dksX10_evening_1 13 rfl rfl)
theorem dX10_evening_38 : decode cX10_evening 38 = .ok (.goto 19, 3) := dk_167 0 19 (dk_at dksX10_evening_1 14 rfl rfl)
theorem dX10_evening_41 : decode cX10_evening 41 = .ok (.iload_n 2, 1) := dk_28 (dk_at dksX10_evening_1 17 rfl rfl)
theorem dX10_evening_42 : decode cX10_evening 42 = .ok (.iconst 1, 1) := dk_4 (dk_at dksX10_evening_1 18 rfl rfl)
theorem dX10_evening_43 : decode cX10_evening 43 = .ok (.if_icmp .ne 10, 3) := dk_160 0 10 (dk_at dksX10_evening_1 19 rfl rfl)
theorem dX10_evening_46 : decode cX10_evening 46 = .ok (.aload_n 0, 1) := dk_42 (dk_at dksX10_evening_1 22 rfl rfl)
theorem dX10_evening_47 : decode cX10_evening 47 = .ok (.invokevirtual 499, 3) := dk_182 1 243 (dk_at dksX10_evening_2 0 rfl rfl)
theorem dX10_evening_50 : decode cX10_evening 50 = .ok (.goto 7, 3) := dk_167 0 7 (dk_at dksX10_evening_2 3 rfl rfl)
theorem dX10_evening_53 : decode cX10_evening 53 = .ok (.aload_n 0, 1) := dk_42 (dk_at dksX10_evening_2 6 rfl rfl)
theorem dX10_evening_54 : decode cX10_evening 54 = .ok (.getfield 387, 3) := dk_180 1 131 (dk_at dksX10_evening_2 7 rfl rfl)
theorem dX10_evening_57 : decode cX10_evening 57 = .ok (.ireturn, 1) := dk_172 (dk_at dksX10_evening_2 10 rfl rfl)
abbrev cX10_wetAll : ByteArray := prog_19_method_62_code
def yX10_wetAll : MethodName := ⟨RX10, "wetAll", "()I"⟩
def dkwX10_wetAll_1 : List UInt8 := [167, 255, 236, 27, 172]
abbrev dktX10_wetAll_1 : List UInt8 := dkwX10_wetAll_1 ++ []
def dkwX10_wetAll_0 : List UInt8 := [3, 60, 3, 61, 28, 42, 180, 0, 214, 162, 0, 18, 27, 42, 180, 0, 114, 28, 46, 96, 60, 132, 2, 1]
abbrev dktX10_wetAll_0 : List UInt8 := dkwX10_wetAll_0 ++ dktX10_wetAll_1
theorem dksX10_wetAll_0 : cX10_wetAll.data.toList.drop 0 = dktX10_wetAll_0 := by decide +kernel
theorem dksX10_wetAll_1 : cX10_wetAll.data.toList.drop 24 = dktX10_wetAll_1 := dk_seg dksX10_wetAll_0 24 rfl rfl
theorem dX10_wetAll_0 : decode cX10_wetAll 0 = .ok (.iconst 0, 1) := dk_3 (dk_at dksX10_wetAll_0 0 rfl rfl)
theorem dX10_wetAll_1 : decode cX10_wetAll 1 = .ok (.istore_n 1, 1) := dk_60 (dk_at dksX10_wetAll_0 1 rfl rfl)
theorem dX10_wetAll_2 : decode cX10_wetAll 2 = .ok (.iconst 0, 1) := dk_3 (dk_at dksX10_wetAll_0 2 rfl rfl)
theorem dX10_wetAll_3 : decode cX10_wetAll 3 = .ok (.istore_n 2, 1) := dk_61 (dk_at dksX10_wetAll_0 3 rfl rfl)
theorem dX10_wetAll_4 : decode cX10_wetAll 4 = .ok (.iload_n 2, 1) := dk_28 (dk_at dksX10_wetAll_0 4 rfl rfl)
theorem dX10_wetAll_5 : decode cX10_wetAll 5 = .ok (.aload_n 0, 1) := dk_42 (dk_at dksX10_wetAll_0 5 rfl rfl)
theorem dX10_wetAll_6 : decode cX10_wetAll 6 = .ok (.getfield 214, 3) := dk_180 0 214 (dk_at dksX10_wetAll_0 6 rfl rfl)
theorem dX10_wetAll_9 : decode cX10_wetAll 9 = .ok (.if_icmp .ge 18, 3) := dk_162 0 18 (dk_at dksX10_wetAll_0 9 rfl rfl)
theorem dX10_wetAll_12 : decode cX10_wetAll 12 = .ok (.iload_n 1, 1) := dk_27 (dk_at dksX10_wetAll_0 12 rfl rfl)
theorem dX10_wetAll_13 : decode cX10_wetAll 13 = .ok (.aload_n 0, 1) := dk_42 (dk_at dksX10_wetAll_0 13 rfl rfl)
theorem dX10_wetAll_14 : decode cX10_wetAll 14 = .ok (.getfield 114, 3) := dk_180 0 114 (dk_at dksX10_wetAll_0 14 rfl rfl)
theorem dX10_wetAll_17 : decode cX10_wetAll 17 = .ok (.iload_n 2, 1) := dk_28 (dk_at dksX10_wetAll_0 17 rfl rfl)
theorem dX10_wetAll_18 : decode cX10_wetAll 18 = .ok (.iaload, 1) := dk_46 (dk_at dksX10_wetAll_0 18 rfl rfl)
theorem dX10_wetAll_19 : decode cX10_wetAll 19 = .ok (.iadd, 1) := dk_96 (dk_at dksX10_wetAll_0 19 rfl rfl)
theorem dX10_wetAll_20 : decode cX10_wetAll 20 = .ok (.istore_n 1, 1) := dk_60 (dk_at dksX10_wetAll_0 20 rfl rfl)
theorem dX10_wetAll_21 : decode cX10_wetAll 21 = .ok (.iinc 2 1, 3) := dk_132 2 1 (dk_at dksX10_wetAll_0 21 rfl rfl)
theorem dX10_wetAll_24 : decode cX10_wetAll 24 = .ok (.goto (-20), 3) := dk_167 255 236 (dk_at dksX10_wetAll_1 0 rfl rfl)
theorem dX10_wetAll_27 : decode cX10_wetAll 27 = .ok (.iload_n 1, 1) := dk_27 (dk_at dksX10_wetAll_1 3 rfl rfl)
theorem dX10_wetAll_28 : decode cX10_wetAll 28 = .ok (.ireturn, 1) := dk_172 (dk_at dksX10_wetAll_1 4 rfl rfl)
abbrev cX10_evenings : ByteArray := prog_19_method_110_code
def yX10_evenings : MethodName := ⟨RX10, "evenings", "(III)I"⟩
def dkwX10_evenings_7 : List UInt8 := [160, 0, 8, 21, 6, 167, 0, 5, 21, 7, 172]
abbrev dktX10_evenings_7 : List UInt8 := dkwX10_evenings_7 ++ []
def dkwX10_evenings_6 : List UInt8 := [167, 255, 170, 29, 154, 0, 8, 21, 4, 167, 0, 25, 29, 4, 160, 0, 8, 21, 5, 167, 0, 15, 29, 5]
abbrev dktX10_evenings_6 : List UInt8 := dkwX10_evenings_6 ++ dktX10_evenings_7
def dkwX10_evenings_5 : List UInt8 := [96, 54, 6, 21, 7, 42, 180, 1, 131, 154, 0, 7, 4, 167, 0, 4, 3, 96, 54, 7, 132, 8, 1]
abbrev dktX10_evenings_5 : List UInt8 := dkwX10_evenings_5 ++ dktX10_evenings_6
def dkwX10_evenings_4 : List UInt8 := [21, 4, 54, 4, 21, 9, 21, 5, 164, 0, 8, 21, 9, 167, 0, 5, 21, 5, 54, 5, 21, 6, 21, 9]
abbrev dktX10_evenings_4 : List UInt8 := dkwX10_evenings_4 ++ dktX10_evenings_5
def dkwX10_evenings_3 : List UInt8 := [4, 182, 1, 152, 54, 9, 21, 4, 2, 159, 0, 10, 21, 9, 21, 4, 162, 0, 8, 21, 9, 167, 0, 5]
abbrev dktX10_evenings_3 : List UInt8 := dkwX10_evenings_3 ++ dktX10_evenings_4
def dkwX10_evenings_2 : List UInt8 := [3, 54, 6, 3, 54, 7, 3, 54, 8, 21, 8, 28, 162, 0, 86, 42, 27, 21, 8, 96, 181, 1, 239, 42]
abbrev dktX10_evenings_2 : List UInt8 := dkwX10_evenings_2 ++ dktX10_evenings_3
def dkwX10_evenings_1 : List UInt8 := [153, 0, 7, 4, 167, 0, 4, 3, 4, 4, 182, 1, 19, 154, 0, 5, 3, 172, 2, 54, 4, 3, 54, 5]
abbrev dktX10_evenings_1 : List UInt8 := dkwX10_evenings_1 ++ dktX10_evenings_2
def dkwX10_evenings_0 : List UInt8 := [42, 3, 181, 0, 3, 42, 28, 4, 16, 40, 184, 1, 108, 153, 0, 16, 29, 3, 6, 184, 1, 108]
abbrev dktX10_evenings_0 : List UInt8 := dkwX10_evenings_0 ++ dktX10_evenings_1
theorem dksX10_evenings_0 : cX10_evenings.data.toList.drop 0 = dktX10_evenings_0 := by decide +kernel
theorem dksX10_evenings_1 : cX10_evenings.data.toList.drop 22 = dktX10_evenings_1 := dk_seg dksX10_evenings_0 22 rfl rfl
theorem dksX10_evenings_2 : cX10_evenings.data.toList.drop 46 = dktX10_evenings_2 := dk_seg dksX10_evenings_1 24 rfl rfl
theorem dksX10_evenings_3 : cX10_evenings.data.toList.drop 70 = dktX10_evenings_3 := dk_seg dksX10_evenings_2 24 rfl rfl
theorem dksX10_evenings_4 : cX10_evenings.data.toList.drop 94 = dktX10_evenings_4 := dk_seg dksX10_evenings_3 24 rfl rfl
theorem dksX10_evenings_5 : cX10_evenings.data.toList.drop 118 = dktX10_evenings_5 := dk_seg dksX10_evenings_4 24 rfl rfl
theorem dksX10_evenings_6 : cX10_evenings.data.toList.drop 141 = dktX10_evenings_6 := dk_seg dksX10_evenings_5 23 rfl rfl
theorem dksX10_evenings_7 : cX10_evenings.data.toList.drop 165 = dktX10_evenings_7 := dk_seg dksX10_evenings_6 24 rfl rfl
theorem dX10_evenings_0 : decode cX10_evenings 0 = .ok (.aload_n 0, 1) := dk_42 (dk_at dksX10_evenings_0 0 rfl rfl)
theorem dX10_evenings_1 : decode cX10_evenings 1 = .ok (.iconst 0, 1) := dk_3 (dk_at dksX10_evenings_0 1 rfl rfl)
theorem dX10_evenings_2 : decode cX10_evenings 2 = .ok (.putfield 3, 3) := dk_181 0 3 (dk_at dksX10_evenings_0 2 rfl rfl)
theorem dX10_evenings_5 : decode cX10_evenings 5 = .ok (.aload_n 0, 1) := dk_42 (dk_at dksX10_evenings_0 5 rfl rfl)
theorem dX10_evenings_6 : decode cX10_evenings 6 = .ok (.iload_n 2, 1) := dk_28 (dk_at dksX10_evenings_0 6 rfl rfl)
theorem dX10_evenings_7 : decode cX10_evenings 7 = .ok (.iconst 1, 1) := dk_4 (dk_at dksX10_evenings_0 7 rfl rfl)
theorem dX10_evenings_8 : decode cX10_evenings 8 = .ok (.bipush 40, 2) := dk_16 40 (dk_at dksX10_evenings_0 8 rfl rfl)
theorem dX10_evenings_10 : decode cX10_evenings 10 = .ok (.invokestatic 364, 3) := dk_184 1 108 (dk_at dksX10_evenings_0 10 rfl rfl)
theorem dX10_evenings_13 : decode cX10_evenings 13 = .ok (.ifCond .eq 16, 3) := dk_153 0 16 (dk_at dksX10_evenings_0 13 rfl rfl)
theorem dX10_evenings_16 : decode cX10_evenings 16 = .ok (.iload_n 3, 1) := dk_29 (dk_at dksX10_evenings_0 16 rfl rfl)
theorem dX10_evenings_17 : decode cX10_evenings 17 = .ok (.iconst 0, 1) := dk_3 (dk_at dksX10_evenings_0 17 rfl rfl)
theorem dX10_evenings_18 : decode cX10_evenings 18 = .ok (.iconst 3, 1) := dk_6 (dk_at dksX10_evenings_0 18 rfl rfl)
theorem dX10_evenings_19 : decode cX10_evenings 19 = .ok (.invokestatic 364, 3) := dk_184 1 108 (dk_at dksX10_evenings_0 19 rfl rfl)
theorem dX10_evenings_22 : decode cX10_evenings 22 = .ok (.ifCond .eq 7, 3) := dk_153 0 7 (dk_at dksX10_evenings_1 0 rfl rfl)
theorem dX10_evenings_25 : decode cX10_evenings 25 = .ok (.iconst 1, 1) := dk_4 (dk_at dksX10_evenings_1 3 rfl rfl)
theorem dX10_evenings_26 : decode cX10_evenings 26 = .ok (.goto 4, 3) := dk_167 0 4 (dk_at dksX10_evenings_1 4 rfl rfl)
theorem dX10_evenings_29 : decode cX10_evenings 29 = .ok (.iconst 0, 1) := dk_3 (dk_at dksX10_evenings_1 7 rfl rfl)
theorem dX10_evenings_30 : decode cX10_evenings 30 = .ok (.iconst 1, 1) := dk_4 (dk_at dksX10_evenings_1 8 rfl rfl)
theorem dX10_evenings_31 : decode cX10_evenings 31 = .ok (.iconst 1, 1) := dk_4 (dk_at dksX10_evenings_1 9 rfl rfl)
theorem dX10_evenings_32 : decode cX10_evenings 32 = .ok (.invokevirtual 275, 3) := dk_182 1 19 (dk_at dksX10_evenings_1 10 rfl rfl)
theorem dX10_evenings_35 : decode cX10_evenings 35 = .ok (.ifCond .ne 5, 3) := dk_154 0 5 (dk_at dksX10_evenings_1 13 rfl rfl)
theorem dX10_evenings_38 : decode cX10_evenings 38 = .ok (.iconst 0, 1) := dk_3 (dk_at dksX10_evenings_1 16 rfl rfl)
theorem dX10_evenings_39 : decode cX10_evenings 39 = .ok (.ireturn, 1) := dk_172 (dk_at dksX10_evenings_1 17 rfl rfl)
theorem dX10_evenings_40 : decode cX10_evenings 40 = .ok (.iconst (-1), 1) := dk_2 (dk_at dksX10_evenings_1 18 rfl rfl)
theorem dX10_evenings_41 : decode cX10_evenings 41 = .ok (.istore 4, 2) := dk_54 4 (dk_at dksX10_evenings_1 19 rfl rfl)
theorem dX10_evenings_43 : decode cX10_evenings 43 = .ok (.iconst 0, 1) := dk_3 (dk_at dksX10_evenings_1 21 rfl rfl)
theorem dX10_evenings_44 : decode cX10_evenings 44 = .ok (.istore 5, 2) := dk_54 5 (dk_at dksX10_evenings_1 22 rfl rfl)
theorem dX10_evenings_46 : decode cX10_evenings 46 = .ok (.iconst 0, 1) := dk_3 (dk_at dksX10_evenings_2 0 rfl rfl)
theorem dX10_evenings_47 : decode cX10_evenings 47 = .ok (.istore 6, 2) := dk_54 6 (dk_at dksX10_evenings_2 1 rfl rfl)
theorem dX10_evenings_49 : decode cX10_evenings 49 = .ok (.iconst 0, 1) := dk_3 (dk_at dksX10_evenings_2 3 rfl rfl)
theorem dX10_evenings_50 : decode cX10_evenings 50 = .ok (.istore 7, 2) := dk_54 7 (dk_at dksX10_evenings_2 4 rfl rfl)
theorem dX10_evenings_52 : decode cX10_evenings 52 = .ok (.iconst 0, 1) := dk_3 (dk_at dksX10_evenings_2 6 rfl rfl)
theorem dX10_evenings_53 : decode cX10_evenings 53 = .ok (.istore 8, 2) := dk_54 8 (dk_at dksX10_evenings_2 7 rfl rfl)
theorem dX10_evenings_55 : decode cX10_evenings 55 = .ok (.iload 8, 2) := dk_21 8 (dk_at dksX10_evenings_2 9 rfl rfl)
theorem dX10_evenings_57 : decode cX10_evenings 57 = .ok (.iload_n 2, 1) := dk_28 (dk_at dksX10_evenings_2 11 rfl rfl)
theorem dX10_evenings_58 : decode cX10_evenings 58 = .ok (.if_icmp .ge 86, 3) := dk_162 0 86 (dk_at dksX10_evenings_2 12 rfl rfl)
theorem dX10_evenings_61 : decode cX10_evenings 61 = .ok (.aload_n 0, 1) := dk_42 (dk_at dksX10_evenings_2 15 rfl rfl)
theorem dX10_evenings_62 : decode cX10_evenings 62 = .ok (.iload_n 1, 1) := dk_27 (dk_at dksX10_evenings_2 16 rfl rfl)
theorem dX10_evenings_63 : decode cX10_evenings 63 = .ok (.iload 8, 2) := dk_21 8 (dk_at dksX10_evenings_2 17 rfl rfl)
theorem dX10_evenings_65 : decode cX10_evenings 65 = .ok (.iadd, 1) := dk_96 (dk_at dksX10_evenings_2 19 rfl rfl)
theorem dX10_evenings_66 : decode cX10_evenings 66 = .ok (.putfield 495, 3) := dk_181 1 239 (dk_at dksX10_evenings_2 20 rfl rfl)
theorem dX10_evenings_69 : decode cX10_evenings 69 = .ok (.aload_n 0, 1) := dk_42 (dk_at dksX10_evenings_2 23 rfl rfl)
theorem dX10_evenings_70 : decode cX10_evenings 70 = .ok (.iconst 1, 1) := dk_4 (dk_at dksX10_evenings_3 0 rfl rfl)
theorem dX10_evenings_71 : decode cX10_evenings 71 = .ok (.invokevirtual 408, 3) := dk_182 1 152 (dk_at dksX10_evenings_3 1 rfl rfl)
theorem dX10_evenings_74 : decode cX10_evenings 74 = .ok (.istore 9, 2) := dk_54 9 (dk_at dksX10_evenings_3 4 rfl rfl)
theorem dX10_evenings_76 : decode cX10_evenings 76 = .ok (.iload 4, 2) := dk_21 4 (dk_at dksX10_evenings_3 6 rfl rfl)
theorem dX10_evenings_78 : decode cX10_evenings 78 = .ok (.iconst (-1), 1) := dk_2 (dk_at dksX10_evenings_3 8 rfl rfl)
theorem dX10_evenings_79 : decode cX10_evenings 79 = .ok (.if_icmp .eq 10, 3) := dk_159 0 10 (dk_at dksX10_evenings_3 9 rfl rfl)
theorem dX10_evenings_82 : decode cX10_evenings 82 = .ok (.iload 9, 2) := dk_21 9 (dk_at dksX10_evenings_3 12 rfl rfl)
theorem dX10_evenings_84 : decode cX10_evenings 84 = .ok (.iload 4, 2) := dk_21 4 (dk_at dksX10_evenings_3 14 rfl rfl)
theorem dX10_evenings_86 : decode cX10_evenings 86 = .ok (.if_icmp .ge 8, 3) := dk_162 0 8 (dk_at dksX10_evenings_3 16 rfl rfl)
theorem dX10_evenings_89 : decode cX10_evenings 89 = .ok (.iload 9, 2) := dk_21 9 (dk_at dksX10_evenings_3 19 rfl rfl)
theorem dX10_evenings_91 : decode cX10_evenings 91 = .ok (.goto 5, 3) := dk_167 0 5 (dk_at dksX10_evenings_3 21 rfl rfl)
theorem dX10_evenings_94 : decode cX10_evenings 94 = .ok (.iload 4, 2) := dk_21 4 (dk_at dksX10_evenings_4 0 rfl rfl)
theorem dX10_evenings_96 : decode cX10_evenings 96 = .ok (.istore 4, 2) := dk_54 4 (dk_at dksX10_evenings_4 2 rfl rfl)
theorem dX10_evenings_98 : decode cX10_evenings 98 = .ok (.iload 9, 2) := dk_21 9 (dk_at dksX10_evenings_4 4 rfl rfl)
theorem dX10_evenings_100 : decode cX10_evenings 100 = .ok (.iload 5, 2) := dk_21 5 (dk_at dksX10_evenings_4 6 rfl rfl)
theorem dX10_evenings_102 : decode cX10_evenings 102 = .ok (.if_icmp .le 8, 3) := dk_164 0 8 (dk_at dksX10_evenings_4 8 rfl rfl)
theorem dX10_evenings_105 : decode cX10_evenings 105 = .ok (.iload 9, 2) := dk_21 9 (dk_at dksX10_evenings_4 11 rfl rfl)
theorem dX10_evenings_107 : decode cX10_evenings 107 = .ok (.goto 5, 3) := dk_167 0 5 (dk_at dksX10_evenings_4 13 rfl rfl)
theorem dX10_evenings_110 : decode cX10_evenings 110 = .ok (.iload 5, 2) := dk_21 5 (dk_at dksX10_evenings_4 16 rfl rfl)
theorem dX10_evenings_112 : decode cX10_evenings 112 = .ok (.istore 5, 2) := dk_54 5 (dk_at dksX10_evenings_4 18 rfl rfl)
theorem dX10_evenings_114 : decode cX10_evenings 114 = .ok (.iload 6, 2) := dk_21 6 (dk_at dksX10_evenings_4 20 rfl rfl)
theorem dX10_evenings_116 : decode cX10_evenings 116 = .ok (.iload 9, 2) := dk_21 9 (dk_at dksX10_evenings_4 22 rfl rfl)
theorem dX10_evenings_118 : decode cX10_evenings 118 = .ok (.iadd, 1) := dk_96 (dk_at dksX10_evenings_5 0 rfl rfl)
theorem dX10_evenings_119 : decode cX10_evenings 119 = .ok (.istore 6, 2) := dk_54 6 (dk_at dksX10_evenings_5 1 rfl rfl)
theorem dX10_evenings_121 : decode cX10_evenings 121 = .ok (.iload 7, 2) := dk_21 7 (dk_at dksX10_evenings_5 3 rfl rfl)
theorem dX10_evenings_123 : decode cX10_evenings 123 = .ok (.aload_n 0, 1) := dk_42 (dk_at dksX10_evenings_5 5 rfl rfl)
theorem dX10_evenings_124 : decode cX10_evenings 124 = .ok (.getfield 387, 3) := dk_180 1 131 (dk_at dksX10_evenings_5 6 rfl rfl)
theorem dX10_evenings_127 : decode cX10_evenings 127 = .ok (.ifCond .ne 7, 3) := dk_154 0 7 (dk_at dksX10_evenings_5 9 rfl rfl)
theorem dX10_evenings_130 : decode cX10_evenings 130 = .ok (.iconst 1, 1) := dk_4 (dk_at dksX10_evenings_5 12 rfl rfl)
theorem dX10_evenings_131 : decode cX10_evenings 131 = .ok (.goto 4, 3) := dk_167 0 4 (dk_at dksX10_evenings_5 13 rfl rfl)
theorem dX10_evenings_134 : decode cX10_evenings 134 = .ok (.iconst 0, 1) := dk_3 (dk_at dksX10_evenings_5 16 rfl rfl)
theorem dX10_evenings_135 : decode cX10_evenings 135 = .ok (.iadd, 1) := dk_96 (dk_at dksX10_evenings_5 17 rfl rfl)
theorem dX10_evenings_136 : decode cX10_evenings 136 = .ok (.istore 7, 2) := dk_54 7 (dk_at dksX10_evenings_5 18 rfl rfl)
theorem dX10_evenings_138 : decode cX10_evenings 138 = .ok (.iinc 8 1, 3) := dk_132 8 1 (dk_at dksX10_evenings_5 20 rfl rfl)
theorem dX10_evenings_141 : decode cX10_evenings 141 = .ok (.goto (-86), 3) := dk_167 255 170 (dk_at dksX10_evenings_6 0 rfl rfl)
theorem dX10_evenings_144 : decode cX10_evenings 144 = .ok (.iload_n 3, 1) := dk_29 (dk_at dksX10_evenings_6 3 rfl rfl)
theorem dX10_evenings_145 : decode cX10_evenings 145 = .ok (.ifCond .ne 8, 3) := dk_154 0 8 (dk_at dksX10_evenings_6 4 rfl rfl)
theorem dX10_evenings_148 : decode cX10_evenings 148 = .ok (.iload 4, 2) := dk_21 4 (dk_at dksX10_evenings_6 7 rfl rfl)
theorem dX10_evenings_150 : decode cX10_evenings 150 = .ok (.goto 25, 3) := dk_167 0 25 (dk_at dksX10_evenings_6 9 rfl rfl)
theorem dX10_evenings_153 : decode cX10_evenings 153 = .ok (.iload_n 3, 1) := dk_29 (dk_at dksX10_evenings_6 12 rfl rfl)
theorem dX10_evenings_154 : decode cX10_evenings 154 = .ok (.iconst 1, 1) := dk_4 (dk_at dksX10_evenings_6 13 rfl rfl)
theorem dX10_evenings_155 : decode cX10_evenings 155 = .ok (.if_icmp .ne 8, 3) := dk_160 0 8 (dk_at dksX10_evenings_6 14 rfl rfl)
theorem dX10_evenings_158 : decode cX10_evenings 158 = .ok (.iload 5, 2) := dk_21 5 (dk_at dksX10_evenings_6 17 rfl rfl)
theorem dX10_evenings_160 : decode cX10_evenings 160 = .ok (.goto 15, 3) := dk_167 0 15 (dk_at dksX10_evenings_6 19 rfl rfl)
theorem dX10_evenings_163 : decode cX10_evenings 163 = .ok (.iload_n 3, 1) := dk_29 (dk_at dksX10_evenings_6 22 rfl rfl)
theorem dX10_evenings_164 : decode cX10_evenings 164 = .ok (.iconst 2, 1) := dk_5 (dk_at dksX10_evenings_6 23 rfl rfl)
theorem dX10_evenings_165 : decode cX10_evenings 165 = .ok (.if_icmp .ne 8, 3) := dk_160 0 8 (dk_at dksX10_evenings_7 0 rfl rfl)
theorem dX10_evenings_168 : decode cX10_evenings 168 = .ok (.iload 6, 2) := dk_21 6 (dk_at dksX10_evenings_7 3 rfl rfl)
theorem dX10_evenings_170 : decode cX10_evenings 170 = .ok (.goto 5, 3) := dk_167 0 5 (dk_at dksX10_evenings_7 5 rfl rfl)
theorem dX10_evenings_173 : decode cX10_evenings 173 = .ok (.iload 7, 2) := dk_21 7 (dk_at dksX10_evenings_7 8 rfl rfl)
theorem dX10_evenings_175 : decode cX10_evenings 175 = .ok (.ireturn, 1) := dk_172 (dk_at dksX10_evenings_7 10 rfl rfl)
abbrev cX10_swap : ByteArray := prog_19_method_114_code
def yX10_swap : MethodName := ⟨RX10, "swap", "(II)I"⟩
def dkwX10_swap_4 : List UInt8 := [132, 3, 1, 167, 255, 204, 4, 172]
abbrev dktX10_swap_4 : List UInt8 := dkwX10_swap_4 ++ []
def dkwX10_swap_3 : List UInt8 := [180, 0, 93, 5, 28, 104, 29, 96, 46, 79, 42, 180, 0, 93, 5, 28, 104, 29, 96, 21, 4, 79]
abbrev dktX10_swap_3 : List UInt8 := dkwX10_swap_3 ++ dktX10_swap_4
def dkwX10_swap_2 : List UInt8 := [42, 180, 0, 93, 5, 27, 104, 29, 96, 46, 54, 4, 42, 180, 0, 93, 5, 27, 104, 29, 96, 42]
abbrev dktX10_swap_2 : List UInt8 := dkwX10_swap_2 ++ dktX10_swap_3
def dkwX10_swap_1 : List UInt8 := [172, 27, 28, 160, 0, 5, 3, 172, 42, 182, 1, 250, 154, 0, 5, 2, 172, 3, 62, 29, 5, 162, 0, 53]
abbrev dktX10_swap_1 : List UInt8 := dkwX10_swap_1 ++ dktX10_swap_2
def dkwX10_swap_0 : List UInt8 := [42, 3, 181, 0, 3, 42, 27, 4, 182, 1, 149, 153, 0, 12, 42, 28, 4, 182, 1, 149, 154, 0, 5, 3]
abbrev dktX10_swap_0 : List UInt8 := dkwX10_swap_0 ++ dktX10_swap_1
theorem dksX10_swap_0 : cX10_swap.data.toList.drop 0 = dktX10_swap_0 := by decide +kernel
theorem dksX10_swap_1 : cX10_swap.data.toList.drop 24 = dktX10_swap_1 := dk_seg dksX10_swap_0 24 rfl rfl
theorem dksX10_swap_2 : cX10_swap.data.toList.drop 48 = dktX10_swap_2 := dk_seg dksX10_swap_1 24 rfl rfl
theorem dksX10_swap_3 : cX10_swap.data.toList.drop 70 = dktX10_swap_3 := dk_seg dksX10_swap_2 22 rfl rfl
theorem dksX10_swap_4 : cX10_swap.data.toList.drop 92 = dktX10_swap_4 := dk_seg dksX10_swap_3 22 rfl rfl
theorem dX10_swap_0 : decode cX10_swap 0 = .ok (.aload_n 0, 1) := dk_42 (dk_at dksX10_swap_0 0 rfl rfl)
theorem dX10_swap_1 : decode cX10_swap 1 = .ok (.iconst 0, 1) := dk_3 (dk_at dksX10_swap_0 1 rfl rfl)
theorem dX10_swap_2 : decode cX10_swap 2 = .ok (.putfield 3, 3) := dk_181 0 3 (dk_at dksX10_swap_0 2 rfl rfl)
theorem dX10_swap_5 : decode cX10_swap 5 = .ok (.aload_n 0, 1) := dk_42 (dk_at dksX10_swap_0 5 rfl rfl)
theorem dX10_swap_6 : decode cX10_swap 6 = .ok (.iload_n 1, 1) := dk_27 (dk_at dksX10_swap_0 6 rfl rfl)
theorem dX10_swap_7 : decode cX10_swap 7 = .ok (.iconst 1, 1) := dk_4 (dk_at dksX10_swap_0 7 rfl rfl)
theorem dX10_swap_8 : decode cX10_swap 8 = .ok (.invokevirtual 405, 3) := dk_182 1 149 (dk_at dksX10_swap_0 8 rfl rfl)
theorem dX10_swap_11 : decode cX10_swap 11 = .ok (.ifCond .eq 12, 3) := dk_153 0 12 (dk_at dksX10_swap_0 11 rfl rfl)
theorem dX10_swap_14 : decode cX10_swap 14 = .ok (.aload_n 0, 1) := dk_42 (dk_at dksX10_swap_0 14 rfl rfl)
theorem dX10_swap_15 : decode cX10_swap 15 = .ok (.iload_n 2, 1) := dk_28 (dk_at dksX10_swap_0 15 rfl rfl)
theorem dX10_swap_16 : decode cX10_swap 16 = .ok (.iconst 1, 1) := dk_4 (dk_at dksX10_swap_0 16 rfl rfl)
theorem dX10_swap_17 : decode cX10_swap 17 = .ok (.invokevirtual 405, 3) := dk_182 1 149 (dk_at dksX10_swap_0 17 rfl rfl)
theorem dX10_swap_20 : decode cX10_swap 20 = .ok (.ifCond .ne 5, 3) := dk_154 0 5 (dk_at dksX10_swap_0 20 rfl rfl)
theorem dX10_swap_23 : decode cX10_swap 23 = .ok (.iconst 0, 1) := dk_3 (dk_at dksX10_swap_0 23 rfl rfl)
theorem dX10_swap_24 : decode cX10_swap 24 = .ok (.ireturn, 1) := dk_172 (dk_at dksX10_swap_1 0 rfl rfl)
theorem dX10_swap_25 : decode cX10_swap 25 = .ok (.iload_n 1, 1) := dk_27 (dk_at dksX10_swap_1 1 rfl rfl)
theorem dX10_swap_26 : decode cX10_swap 26 = .ok (.iload_n 2, 1) := dk_28 (dk_at dksX10_swap_1 2 rfl rfl)
theorem dX10_swap_27 : decode cX10_swap 27 = .ok (.if_icmp .ne 5, 3) := dk_160 0 5 (dk_at dksX10_swap_1 3 rfl rfl)
theorem dX10_swap_30 : decode cX10_swap 30 = .ok (.iconst 0, 1) := dk_3 (dk_at dksX10_swap_1 6 rfl rfl)
theorem dX10_swap_31 : decode cX10_swap 31 = .ok (.ireturn, 1) := dk_172 (dk_at dksX10_swap_1 7 rfl rfl)
theorem dX10_swap_32 : decode cX10_swap 32 = .ok (.aload_n 0, 1) := dk_42 (dk_at dksX10_swap_1 8 rfl rfl)
theorem dX10_swap_33 : decode cX10_swap 33 = .ok (.invokevirtual 506, 3) := dk_182 1 250 (dk_at dksX10_swap_1 9 rfl rfl)
theorem dX10_swap_36 : decode cX10_swap 36 = .ok (.ifCond .ne 5, 3) := dk_154 0 5 (dk_at dksX10_swap_1 12 rfl rfl)
theorem dX10_swap_39 : decode cX10_swap 39 = .ok (.iconst (-1), 1) := dk_2 (dk_at dksX10_swap_1 15 rfl rfl)
theorem dX10_swap_40 : decode cX10_swap 40 = .ok (.ireturn, 1) := dk_172 (dk_at dksX10_swap_1 16 rfl rfl)
theorem dX10_swap_41 : decode cX10_swap 41 = .ok (.iconst 0, 1) := dk_3 (dk_at dksX10_swap_1 17 rfl rfl)
theorem dX10_swap_42 : decode cX10_swap 42 = .ok (.istore_n 3, 1) := dk_62 (dk_at dksX10_swap_1 18 rfl rfl)
theorem dX10_swap_43 : decode cX10_swap 43 = .ok (.iload_n 3, 1) := dk_29 (dk_at dksX10_swap_1 19 rfl rfl)
theorem dX10_swap_44 : decode cX10_swap 44 = .ok (.iconst 2, 1) := dk_5 (dk_at dksX10_swap_1 20 rfl rfl)
theorem dX10_swap_45 : decode cX10_swap 45 = .ok (.if_icmp .ge 53, 3) := dk_162 0 53 (dk_at dksX10_swap_1 21 rfl rfl)
theorem dX10_swap_48 : decode cX10_swap 48 = .ok (.aload_n 0, 1) := dk_42 (dk_at dksX10_swap_2 0 rfl rfl)
theorem dX10_swap_49 : decode cX10_swap 49 = .ok (.getfield 93, 3) := dk_180 0 93 (dk_at dksX10_swap_2 1 rfl rfl)
theorem dX10_swap_52 : decode cX10_swap 52 = .ok (.iconst 2, 1) := dk_5 (dk_at dksX10_swap_2 4 rfl rfl)
theorem dX10_swap_53 : decode cX10_swap 53 = .ok (.iload_n 1, 1) := dk_27 (dk_at dksX10_swap_2 5 rfl rfl)
theorem dX10_swap_54 : decode cX10_swap 54 = .ok (.imul, 1) := dk_104 (dk_at dksX10_swap_2 6 rfl rfl)
theorem dX10_swap_55 : decode cX10_swap 55 = .ok (.iload_n 3, 1) := dk_29 (dk_at dksX10_swap_2 7 rfl rfl)
theorem dX10_swap_56 : decode cX10_swap 56 = .ok (.iadd, 1) := dk_96 (dk_at dksX10_swap_2 8 rfl rfl)
theorem dX10_swap_57 : decode cX10_swap 57 = .ok (.iaload, 1) := dk_46 (dk_at dksX10_swap_2 9 rfl rfl)
theorem dX10_swap_58 : decode cX10_swap 58 = .ok (.istore 4, 2) := dk_54 4 (dk_at dksX10_swap_2 10 rfl rfl)
theorem dX10_swap_60 : decode cX10_swap 60 = .ok (.aload_n 0, 1) := dk_42 (dk_at dksX10_swap_2 12 rfl rfl)
theorem dX10_swap_61 : decode cX10_swap 61 = .ok (.getfield 93, 3) := dk_180 0 93 (dk_at dksX10_swap_2 13 rfl rfl)
theorem dX10_swap_64 : decode cX10_swap 64 = .ok (.iconst 2, 1) := dk_5 (dk_at dksX10_swap_2 16 rfl rfl)
theorem dX10_swap_65 : decode cX10_swap 65 = .ok (.iload_n 1, 1) := dk_27 (dk_at dksX10_swap_2 17 rfl rfl)
theorem dX10_swap_66 : decode cX10_swap 66 = .ok (.imul, 1) := dk_104 (dk_at dksX10_swap_2 18 rfl rfl)
theorem dX10_swap_67 : decode cX10_swap 67 = .ok (.iload_n 3, 1) := dk_29 (dk_at dksX10_swap_2 19 rfl rfl)
theorem dX10_swap_68 : decode cX10_swap 68 = .ok (.iadd, 1) := dk_96 (dk_at dksX10_swap_2 20 rfl rfl)
theorem dX10_swap_69 : decode cX10_swap 69 = .ok (.aload_n 0, 1) := dk_42 (dk_at dksX10_swap_2 21 rfl rfl)
theorem dX10_swap_70 : decode cX10_swap 70 = .ok (.getfield 93, 3) := dk_180 0 93 (dk_at dksX10_swap_3 0 rfl rfl)
theorem dX10_swap_73 : decode cX10_swap 73 = .ok (.iconst 2, 1) := dk_5 (dk_at dksX10_swap_3 3 rfl rfl)
theorem dX10_swap_74 : decode cX10_swap 74 = .ok (.iload_n 2, 1) := dk_28 (dk_at dksX10_swap_3 4 rfl rfl)
theorem dX10_swap_75 : decode cX10_swap 75 = .ok (.imul, 1) := dk_104 (dk_at dksX10_swap_3 5 rfl rfl)
theorem dX10_swap_76 : decode cX10_swap 76 = .ok (.iload_n 3, 1) := dk_29 (dk_at dksX10_swap_3 6 rfl rfl)
theorem dX10_swap_77 : decode cX10_swap 77 = .ok (.iadd, 1) := dk_96 (dk_at dksX10_swap_3 7 rfl rfl)
theorem dX10_swap_78 : decode cX10_swap 78 = .ok (.iaload, 1) := dk_46 (dk_at dksX10_swap_3 8 rfl rfl)
theorem dX10_swap_79 : decode cX10_swap 79 = .ok (.iastore, 1) := dk_79 (dk_at dksX10_swap_3 9 rfl rfl)
theorem dX10_swap_80 : decode cX10_swap 80 = .ok (.aload_n 0, 1) := dk_42 (dk_at dksX10_swap_3 10 rfl rfl)
theorem dX10_swap_81 : decode cX10_swap 81 = .ok (.getfield 93, 3) := dk_180 0 93 (dk_at dksX10_swap_3 11 rfl rfl)
theorem dX10_swap_84 : decode cX10_swap 84 = .ok (.iconst 2, 1) := dk_5 (dk_at dksX10_swap_3 14 rfl rfl)
theorem dX10_swap_85 : decode cX10_swap 85 = .ok (.iload_n 2, 1) := dk_28 (dk_at dksX10_swap_3 15 rfl rfl)
theorem dX10_swap_86 : decode cX10_swap 86 = .ok (.imul, 1) := dk_104 (dk_at dksX10_swap_3 16 rfl rfl)
theorem dX10_swap_87 : decode cX10_swap 87 = .ok (.iload_n 3, 1) := dk_29 (dk_at dksX10_swap_3 17 rfl rfl)
theorem dX10_swap_88 : decode cX10_swap 88 = .ok (.iadd, 1) := dk_96 (dk_at dksX10_swap_3 18 rfl rfl)
theorem dX10_swap_89 : decode cX10_swap 89 = .ok (.iload 4, 2) := dk_21 4 (dk_at dksX10_swap_3 19 rfl rfl)
theorem dX10_swap_91 : decode cX10_swap 91 = .ok (.iastore, 1) := dk_79 (dk_at dksX10_swap_3 21 rfl rfl)
theorem dX10_swap_92 : decode cX10_swap 92 = .ok (.iinc 3 1, 3) := dk_132 3 1 (dk_at dksX10_swap_4 0 rfl rfl)
theorem dX10_swap_95 : decode cX10_swap 95 = .ok (.goto (-52), 3) := dk_167 255 204 (dk_at dksX10_swap_4 3 rfl rfl)
theorem dX10_swap_98 : decode cX10_swap 98 = .ok (.iconst 1, 1) := dk_4 (dk_at dksX10_swap_4 6 rfl rfl)
theorem dX10_swap_99 : decode cX10_swap 99 = .ok (.ireturn, 1) := dk_172 (dk_at dksX10_swap_4 7 rfl rfl)
abbrev cX10_changes : ByteArray := prog_19_method_113_code
def yX10_changes : MethodName := ⟨RX10, "changes", "()Z"⟩
def dkwX10_changes_1 : List UInt8 := [182, 1, 246, 42, 89, 180, 0, 242, 4, 96, 181, 0, 242, 4, 172]
abbrev dktX10_changes_1 : List UInt8 := dkwX10_changes_1 ++ []
def dkwX10_changes_0 : List UInt8 := [42, 180, 0, 242, 16, 20, 160, 0, 5, 3, 172, 42, 42, 180, 0, 138, 16, 25, 42, 180, 0, 242, 104]
abbrev dktX10_changes_0 : List UInt8 := dkwX10_changes_0 ++ dktX10_changes_1
theorem dksX10_changes_0 : cX10_changes.data.toList.drop 0 = dktX10_changes_0 := by decide +kernel
theorem dksX10_changes_1 : cX10_changes.data.toList.drop 23 = dktX10_changes_1 := dk_seg dksX10_changes_0 23 rfl rfl
theorem dX10_changes_0 : decode cX10_changes 0 = .ok (.aload_n 0, 1) := dk_42 (dk_at dksX10_changes_0 0 rfl rfl)
theorem dX10_changes_1 : decode cX10_changes 1 = .ok (.getfield 242, 3) := dk_180 0 242 (dk_at dksX10_changes_0 1 rfl rfl)
theorem dX10_changes_4 : decode cX10_changes 4 = .ok (.bipush 20, 2) := dk_16 20 (dk_at dksX10_changes_0 4 rfl rfl)
theorem dX10_changes_6 : decode cX10_changes 6 = .ok (.if_icmp .ne 5, 3) := dk_160 0 5 (dk_at dksX10_changes_0 6 rfl rfl)
theorem dX10_changes_9 : decode cX10_changes 9 = .ok (.iconst 0, 1) := dk_3 (dk_at dksX10_changes_0 9 rfl rfl)
theorem dX10_changes_10 : decode cX10_changes 10 = .ok (.ireturn, 1) := dk_172 (dk_at dksX10_changes_0 10 rfl rfl)
theorem dX10_changes_11 : decode cX10_changes 11 = .ok (.aload_n 0, 1) := dk_42 (dk_at dksX10_changes_0 11 rfl rfl)
theorem dX10_changes_12 : decode cX10_changes 12 = .ok (.aload_n 0, 1) := dk_42 (dk_at dksX10_changes_0 12 rfl rfl)
theorem dX10_changes_13 : decode cX10_changes 13 = .ok (.getfield 138, 3) := dk_180 0 138 (dk_at dksX10_changes_0 13 rfl rfl)
theorem dX10_changes_16 : decode cX10_changes 16 = .ok (.bipush 25, 2) := dk_16 25 (dk_at dksX10_changes_0 16 rfl rfl)
theorem dX10_changes_18 : decode cX10_changes 18 = .ok (.aload_n 0, 1) := dk_42 (dk_at dksX10_changes_0 18 rfl rfl)
theorem dX10_changes_19 : decode cX10_changes 19 = .ok (.getfield 242, 3) := dk_180 0 242 (dk_at dksX10_changes_0 19 rfl rfl)
theorem dX10_changes_22 : decode cX10_changes 22 = .ok (.imul, 1) := dk_104 (dk_at dksX10_changes_0 22 rfl rfl)
theorem dX10_changes_23 : decode cX10_changes 23 = .ok (.invokevirtual 502, 3) := dk_182 1 246 (dk_at dksX10_changes_1 0 rfl rfl)
theorem dX10_changes_26 : decode cX10_changes 26 = .ok (.aload_n 0, 1) := dk_42 (dk_at dksX10_changes_1 3 rfl rfl)
theorem dX10_changes_27 : decode cX10_changes 27 = .ok (.dup, 1) := dk_89 (dk_at dksX10_changes_1 4 rfl rfl)
theorem dX10_changes_28 : decode cX10_changes 28 = .ok (.getfield 242, 3) := dk_180 0 242 (dk_at dksX10_changes_1 5 rfl rfl)
theorem dX10_changes_31 : decode cX10_changes 31 = .ok (.iconst 1, 1) := dk_4 (dk_at dksX10_changes_1 8 rfl rfl)
theorem dX10_changes_32 : decode cX10_changes 32 = .ok (.iadd, 1) := dk_96 (dk_at dksX10_changes_1 9 rfl rfl)
theorem dX10_changes_33 : decode cX10_changes 33 = .ok (.putfield 242, 3) := dk_181 0 242 (dk_at dksX10_changes_1 10 rfl rfl)
theorem dX10_changes_36 : decode cX10_changes 36 = .ok (.iconst 1, 1) := dk_4 (dk_at dksX10_changes_1 13 rfl rfl)
theorem dX10_changes_37 : decode cX10_changes 37 = .ok (.ireturn, 1) := dk_172 (dk_at dksX10_changes_1 14 rfl rfl)
abbrev cX10_keepsIn : ByteArray := prog_19_method_111_code
def yX10_keepsIn : MethodName := ⟨RX10, "keepsIn", "([II)V"⟩
def dkwX10_keepsIn_1 : List UInt8 := [167, 255, 236, 43, 28, 16, 24, 96, 42, 180, 0, 236, 79, 177]
abbrev dktX10_keepsIn_1 : List UInt8 := dkwX10_keepsIn_1 ++ []
def dkwX10_keepsIn_0 : List UInt8 := [3, 62, 29, 16, 24, 162, 0, 20, 43, 28, 29, 96, 42, 180, 0, 93, 29, 46, 79, 132, 3, 1]
abbrev dktX10_keepsIn_0 : List UInt8 := dkwX10_keepsIn_0 ++ dktX10_keepsIn_1
theorem dksX10_keepsIn_0 : cX10_keepsIn.data.toList.drop 0 = dktX10_keepsIn_0 := by decide +kernel
theorem dksX10_keepsIn_1 : cX10_keepsIn.data.toList.drop 22 = dktX10_keepsIn_1 := dk_seg dksX10_keepsIn_0 22 rfl rfl
theorem dX10_keepsIn_0 : decode cX10_keepsIn 0 = .ok (.iconst 0, 1) := dk_3 (dk_at dksX10_keepsIn_0 0 rfl rfl)
theorem dX10_keepsIn_1 : decode cX10_keepsIn 1 = .ok (.istore_n 3, 1) := dk_62 (dk_at dksX10_keepsIn_0 1 rfl rfl)
theorem dX10_keepsIn_2 : decode cX10_keepsIn 2 = .ok (.iload_n 3, 1) := dk_29 (dk_at dksX10_keepsIn_0 2 rfl rfl)
theorem dX10_keepsIn_3 : decode cX10_keepsIn 3 = .ok (.bipush 24, 2) := dk_16 24 (dk_at dksX10_keepsIn_0 3 rfl rfl)
theorem dX10_keepsIn_5 : decode cX10_keepsIn 5 = .ok (.if_icmp .ge 20, 3) := dk_162 0 20 (dk_at dksX10_keepsIn_0 5 rfl rfl)
theorem dX10_keepsIn_8 : decode cX10_keepsIn 8 = .ok (.aload_n 1, 1) := dk_43 (dk_at dksX10_keepsIn_0 8 rfl rfl)
theorem dX10_keepsIn_9 : decode cX10_keepsIn 9 = .ok (.iload_n 2, 1) := dk_28 (dk_at dksX10_keepsIn_0 9 rfl rfl)
theorem dX10_keepsIn_10 : decode cX10_keepsIn 10 = .ok (.iload_n 3, 1) := dk_29 (dk_at dksX10_keepsIn_0 10 rfl rfl)
theorem dX10_keepsIn_11 : decode cX10_keepsIn 11 = .ok (.iadd, 1) := dk_96 (dk_at dksX10_keepsIn_0 11 rfl rfl)
theorem dX10_keepsIn_12 : decode cX10_keepsIn 12 = .ok (.aload_n 0, 1) := dk_42 (dk_at dksX10_keepsIn_0 12 rfl rfl)
theorem dX10_keepsIn_13 : decode cX10_keepsIn 13 = .ok (.getfield 93, 3) := dk_180 0 93 (dk_at dksX10_keepsIn_0 13 rfl rfl)
theorem dX10_keepsIn_16 : decode cX10_keepsIn 16 = .ok (.iload_n 3, 1) := dk_29 (dk_at dksX10_keepsIn_0 16 rfl rfl)
theorem dX10_keepsIn_17 : decode cX10_keepsIn 17 = .ok (.iaload, 1) := dk_46 (dk_at dksX10_keepsIn_0 17 rfl rfl)
theorem dX10_keepsIn_18 : decode cX10_keepsIn 18 = .ok (.iastore, 1) := dk_79 (dk_at dksX10_keepsIn_0 18 rfl rfl)
theorem dX10_keepsIn_19 : decode cX10_keepsIn 19 = .ok (.iinc 3 1, 3) := dk_132 3 1 (dk_at dksX10_keepsIn_0 19 rfl rfl)
theorem dX10_keepsIn_22 : decode cX10_keepsIn 22 = .ok (.goto (-20), 3) := dk_167 255 236 (dk_at dksX10_keepsIn_1 0 rfl rfl)
theorem dX10_keepsIn_25 : decode cX10_keepsIn 25 = .ok (.aload_n 1, 1) := dk_43 (dk_at dksX10_keepsIn_1 3 rfl rfl)
theorem dX10_keepsIn_26 : decode cX10_keepsIn 26 = .ok (.iload_n 2, 1) := dk_28 (dk_at dksX10_keepsIn_1 4 rfl rfl)
theorem dX10_keepsIn_27 : decode cX10_keepsIn 27 = .ok (.bipush 24, 2) := dk_16 24 (dk_at dksX10_keepsIn_1 5 rfl rfl)
theorem dX10_keepsIn_29 : decode cX10_keepsIn 29 = .ok (.iadd, 1) := dk_96 (dk_at dksX10_keepsIn_1 7 rfl rfl)
theorem dX10_keepsIn_30 : decode cX10_keepsIn 30 = .ok (.aload_n 0, 1) := dk_42 (dk_at dksX10_keepsIn_1 8 rfl rfl)
theorem dX10_keepsIn_31 : decode cX10_keepsIn 31 = .ok (.getfield 236, 3) := dk_180 0 236 (dk_at dksX10_keepsIn_1 9 rfl rfl)
theorem dX10_keepsIn_34 : decode cX10_keepsIn 34 = .ok (.iastore, 1) := dk_79 (dk_at dksX10_keepsIn_1 12 rfl rfl)
theorem dX10_keepsIn_35 : decode cX10_keepsIn 35 = .ok (.return_, 1) := dk_177 (dk_at dksX10_keepsIn_1 13 rfl rfl)
abbrev cX10_hand : ByteArray := prog_19_method_115_code
def yX10_hand : MethodName := ⟨RX10, "hand", "(II)I"⟩
def dkwX10_hand_3 : List UInt8 := [4, 96, 28, 79, 4, 172]
abbrev dktX10_hand_3 : List UInt8 := dkwX10_hand_3 ++ []
def dkwX10_hand_2 : List UInt8 := [182, 1, 19, 154, 0, 5, 3, 172, 42, 182, 1, 250, 154, 0, 5, 2, 172, 42, 180, 0, 93, 5, 27, 104]
abbrev dktX10_hand_2 : List UInt8 := dkwX10_hand_2 ++ dktX10_hand_3
def dkwX10_hand_1 : List UInt8 := [180, 0, 214, 120, 162, 0, 16, 42, 28, 182, 1, 122, 5, 163, 0, 7, 4, 167, 0, 4, 3, 5, 4]
abbrev dktX10_hand_1 : List UInt8 := dkwX10_hand_1 ++ dktX10_hand_2
def dkwX10_hand_0 : List UInt8 := [42, 3, 181, 0, 3, 42, 27, 4, 182, 1, 149, 153, 0, 40, 42, 28, 158, 0, 26, 28, 4, 42]
abbrev dktX10_hand_0 : List UInt8 := dkwX10_hand_0 ++ dktX10_hand_1
theorem dksX10_hand_0 : cX10_hand.data.toList.drop 0 = dktX10_hand_0 := by decide +kernel
theorem dksX10_hand_1 : cX10_hand.data.toList.drop 22 = dktX10_hand_1 := dk_seg dksX10_hand_0 22 rfl rfl
theorem dksX10_hand_2 : cX10_hand.data.toList.drop 45 = dktX10_hand_2 := dk_seg dksX10_hand_1 23 rfl rfl
theorem dksX10_hand_3 : cX10_hand.data.toList.drop 69 = dktX10_hand_3 := dk_seg dksX10_hand_2 24 rfl rfl
theorem dX10_hand_0 : decode cX10_hand 0 = .ok (.aload_n 0, 1) := dk_42 (dk_at dksX10_hand_0 0 rfl rfl)
theorem dX10_hand_1 : decode cX10_hand 1 = .ok (.iconst 0, 1) := dk_3 (dk_at dksX10_hand_0 1 rfl rfl)
theorem dX10_hand_2 : decode cX10_hand 2 = .ok (.putfield 3, 3) := dk_181 0 3 (dk_at dksX10_hand_0 2 rfl rfl)
theorem dX10_hand_5 : decode cX10_hand 5 = .ok (.aload_n 0, 1) := dk_42 (dk_at dksX10_hand_0 5 rfl rfl)
theorem dX10_hand_6 : decode cX10_hand 6 = .ok (.iload_n 1, 1) := dk_27 (dk_at dksX10_hand_0 6 rfl rfl)
theorem dX10_hand_7 : decode cX10_hand 7 = .ok (.iconst 1, 1) := dk_4 (dk_at dksX10_hand_0 7 rfl rfl)
theorem dX10_hand_8 : decode cX10_hand 8 = .ok (.invokevirtual 405, 3) := dk_182 1 149 (dk_at dksX10_hand_0 8 rfl rfl)
theorem dX10_hand_11 : decode cX10_hand 11 = .ok (.ifCond .eq 40, 3) := dk_153 0 40 (dk_at dksX10_hand_0 11 rfl rfl)
theorem dX10_hand_14 : decode cX10_hand 14 = .ok (.aload_n 0, 1) := dk_42 (dk_at dksX10_hand_0 14 rfl rfl)
theorem dX10_hand_15 : decode cX10_hand 15 = .ok (.iload_n 2, 1) := dk_28 (dk_at dksX10_hand_0 15 rfl rfl)
theorem dX10_hand_16 : decode cX10_hand 16 = .ok (.ifCond .le 26, 3) := dk_158 0 26 (dk_at dksX10_hand_0 16 rfl rfl)
theorem dX10_hand_19 : decode cX10_hand 19 = .ok (.iload_n 2, 1) := dk_28 (dk_at dksX10_hand_0 19 rfl rfl)
theorem dX10_hand_20 : decode cX10_hand 20 = .ok (.iconst 1, 1) := dk_4 (dk_at dksX10_hand_0 20 rfl rfl)
theorem dX10_hand_21 : decode cX10_hand 21 = .ok (.aload_n 0, 1) := dk_42 (dk_at dksX10_hand_0 21 rfl rfl)
theorem dX10_hand_22 : decode cX10_hand 22 = .ok (.getfield 214, 3) := dk_180 0 214 (dk_at dksX10_hand_1 0 rfl rfl)
theorem dX10_hand_25 : decode cX10_hand 25 = .ok (.ishl, 1) := dk_120 (dk_at dksX10_hand_1 3 rfl rfl)
theorem dX10_hand_26 : decode cX10_hand 26 = .ok (.if_icmp .ge 16, 3) := dk_162 0 16 (dk_at dksX10_hand_1 4 rfl rfl)
theorem dX10_hand_29 : decode cX10_hand 29 = .ok (.aload_n 0, 1) := dk_42 (dk_at dksX10_hand_1 7 rfl rfl)
theorem dX10_hand_30 : decode cX10_hand 30 = .ok (.iload_n 2, 1) := dk_28 (dk_at dksX10_hand_1 8 rfl rfl)
theorem dX10_hand_31 : decode cX10_hand 31 = .ok (.invokevirtual 378, 3) := dk_182 1 122 (dk_at dksX10_hand_1 9 rfl rfl)
theorem dX10_hand_34 : decode cX10_hand 34 = .ok (.iconst 2, 1) := dk_5 (dk_at dksX10_hand_1 12 rfl rfl)
theorem dX10_hand_35 : decode cX10_hand 35 = .ok (.if_icmp .gt 7, 3) := dk_163 0 7 (dk_at dksX10_hand_1 13 rfl rfl)
theorem dX10_hand_38 : decode cX10_hand 38 = .ok (.iconst 1, 1) := dk_4 (dk_at dksX10_hand_1 16 rfl rfl)
theorem dX10_hand_39 : decode cX10_hand 39 = .ok (.goto 4, 3) := dk_167 0 4 (dk_at dksX10_hand_1 17 rfl rfl)
theorem dX10_hand_42 : decode cX10_hand 42 = .ok (.iconst 0, 1) := dk_3 (dk_at dksX10_hand_1 20 rfl rfl)
theorem dX10_hand_43 : decode cX10_hand 43 = .ok (.iconst 2, 1) := dk_5 (dk_at dksX10_hand_1 21 rfl rfl)
theorem dX10_hand_44 : decode cX10_hand 44 = .ok (.iconst 1, 1) := dk_4 (dk_at dksX10_hand_1 22 rfl rfl)
theorem dX10_hand_45 : decode cX10_hand 45 = .ok (.invokevirtual 275, 3) := dk_182 1 19 (dk_at dksX10_hand_2 0 rfl rfl)
theorem dX10_hand_48 : decode cX10_hand 48 = .ok (.ifCond .ne 5, 3) := dk_154 0 5 (dk_at dksX10_hand_2 3 rfl rfl)
theorem dX10_hand_51 : decode cX10_hand 51 = .ok (.iconst 0, 1) := dk_3 (dk_at dksX10_hand_2 6 rfl rfl)
theorem dX10_hand_52 : decode cX10_hand 52 = .ok (.ireturn, 1) := dk_172 (dk_at dksX10_hand_2 7 rfl rfl)
theorem dX10_hand_53 : decode cX10_hand 53 = .ok (.aload_n 0, 1) := dk_42 (dk_at dksX10_hand_2 8 rfl rfl)
theorem dX10_hand_54 : decode cX10_hand 54 = .ok (.invokevirtual 506, 3) := dk_182 1 250 (dk_at dksX10_hand_2 9 rfl rfl)
theorem dX10_hand_57 : decode cX10_hand 57 = .ok (.ifCond .ne 5, 3) := dk_154 0 5 (dk_at dksX10_hand_2 12 rfl rfl)
theorem dX10_hand_60 : decode cX10_hand 60 = .ok (.iconst (-1), 1) := dk_2 (dk_at dksX10_hand_2 15 rfl rfl)
theorem dX10_hand_61 : decode cX10_hand 61 = .ok (.ireturn, 1) := dk_172 (dk_at dksX10_hand_2 16 rfl rfl)
theorem dX10_hand_62 : decode cX10_hand 62 = .ok (.aload_n 0, 1) := dk_42 (dk_at dksX10_hand_2 17 rfl rfl)
theorem dX10_hand_63 : decode cX10_hand 63 = .ok (.getfield 93, 3) := dk_180 0 93 (dk_at dksX10_hand_2 18 rfl rfl)
theorem dX10_hand_66 : decode cX10_hand 66 = .ok (.iconst 2, 1) := dk_5 (dk_at dksX10_hand_2 21 rfl rfl)
theorem dX10_hand_67 : decode cX10_hand 67 = .ok (.iload_n 1, 1) := dk_27 (dk_at dksX10_hand_2 22 rfl rfl)
theorem dX10_hand_68 : decode cX10_hand 68 = .ok (.imul, 1) := dk_104 (dk_at dksX10_hand_2 23 rfl rfl)
theorem dX10_hand_69 : decode cX10_hand 69 = .ok (.iconst 1, 1) := dk_4 (dk_at dksX10_hand_3 0 rfl rfl)
theorem dX10_hand_70 : decode cX10_hand 70 = .ok (.iadd, 1) := dk_96 (dk_at dksX10_hand_3 1 rfl rfl)
theorem dX10_hand_71 : decode cX10_hand 71 = .ok (.iload_n 2, 1) := dk_28 (dk_at dksX10_hand_3 2 rfl rfl)
theorem dX10_hand_72 : decode cX10_hand 72 = .ok (.iastore, 1) := dk_79 (dk_at dksX10_hand_3 3 rfl rfl)
theorem dX10_hand_73 : decode cX10_hand 73 = .ok (.iconst 1, 1) := dk_4 (dk_at dksX10_hand_3 4 rfl rfl)
theorem dX10_hand_74 : decode cX10_hand 74 = .ok (.ireturn, 1) := dk_172 (dk_at dksX10_hand_3 5 rfl rfl)
abbrev cX10_drop : ByteArray := prog_19_method_116_code
def yX10_drop : MethodName := ⟨RX10, "drop", "(I)I"⟩
def dkwX10_drop_3 : List UInt8 := [180, 0, 236, 172]
abbrev dktX10_drop_3 : List UInt8 := dkwX10_drop_3 ++ []
def dkwX10_drop_2 : List UInt8 := [162, 0, 23, 42, 180, 0, 93, 28, 42, 180, 0, 93, 28, 5, 96, 46, 79, 132, 2, 1, 167, 255, 229, 42]
abbrev dktX10_drop_2 : List UInt8 := dkwX10_drop_2 ++ dktX10_drop_3
def dkwX10_drop_1 : List UInt8 := [172, 42, 89, 180, 0, 236, 4, 100, 181, 0, 236, 5, 27, 104, 61, 28, 5, 42, 180, 0, 236, 104]
abbrev dktX10_drop_1 : List UInt8 := dkwX10_drop_1 ++ dktX10_drop_2
def dkwX10_drop_0 : List UInt8 := [42, 3, 181, 0, 3, 42, 27, 4, 182, 1, 149, 154, 0, 5, 3, 172, 42, 182, 1, 250, 154, 0, 5, 2]
abbrev dktX10_drop_0 : List UInt8 := dkwX10_drop_0 ++ dktX10_drop_1
theorem dksX10_drop_0 : cX10_drop.data.toList.drop 0 = dktX10_drop_0 := by decide +kernel
theorem dksX10_drop_1 : cX10_drop.data.toList.drop 24 = dktX10_drop_1 := dk_seg dksX10_drop_0 24 rfl rfl
theorem dksX10_drop_2 : cX10_drop.data.toList.drop 46 = dktX10_drop_2 := dk_seg dksX10_drop_1 22 rfl rfl
theorem dksX10_drop_3 : cX10_drop.data.toList.drop 70 = dktX10_drop_3 := dk_seg dksX10_drop_2 24 rfl rfl
theorem dX10_drop_0 : decode cX10_drop 0 = .ok (.aload_n 0, 1) := dk_42 (dk_at dksX10_drop_0 0 rfl rfl)
theorem dX10_drop_1 : decode cX10_drop 1 = .ok (.iconst 0, 1) := dk_3 (dk_at dksX10_drop_0 1 rfl rfl)
theorem dX10_drop_2 : decode cX10_drop 2 = .ok (.putfield 3, 3) := dk_181 0 3 (dk_at dksX10_drop_0 2 rfl rfl)
theorem dX10_drop_5 : decode cX10_drop 5 = .ok (.aload_n 0, 1) := dk_42 (dk_at dksX10_drop_0 5 rfl rfl)
theorem dX10_drop_6 : decode cX10_drop 6 = .ok (.iload_n 1, 1) := dk_27 (dk_at dksX10_drop_0 6 rfl rfl)
theorem dX10_drop_7 : decode cX10_drop 7 = .ok (.iconst 1, 1) := dk_4 (dk_at dksX10_drop_0 7 rfl rfl)
theorem dX10_drop_8 : decode cX10_drop 8 = .ok (.invokevirtual 405, 3) := dk_182 1 149 (dk_at dksX10_drop_0 8 rfl rfl)
theorem dX10_drop_11 : decode cX10_drop 11 = .ok (.ifCond .ne 5, 3) := dk_154 0 5 (dk_at dksX10_drop_0 11 rfl rfl)
theorem dX10_drop_14 : decode cX10_drop 14 = .ok (.iconst 0, 1) := dk_3 (dk_at dksX10_drop_0 14 rfl rfl)
theorem dX10_drop_15 : decode cX10_drop 15 = .ok (.ireturn, 1) := dk_172 (dk_at dksX10_drop_0 15 rfl rfl)
theorem dX10_drop_16 : decode cX10_drop 16 = .ok (.aload_n 0, 1) := dk_42 (dk_at dksX10_drop_0 16 rfl rfl)
theorem dX10_drop_17 : decode cX10_drop 17 = .ok (.invokevirtual 506, 3) := dk_182 1 250 (dk_at dksX10_drop_0 17 rfl rfl)
theorem dX10_drop_20 : decode cX10_drop 20 = .ok (.ifCond .ne 5, 3) := dk_154 0 5 (dk_at dksX10_drop_0 20 rfl rfl)
theorem dX10_drop_23 : decode cX10_drop 23 = .ok (.iconst (-1), 1) := dk_2 (dk_at dksX10_drop_0 23 rfl rfl)
theorem dX10_drop_24 : decode cX10_drop 24 = .ok (.ireturn, 1) := dk_172 (dk_at dksX10_drop_1 0 rfl rfl)
theorem dX10_drop_25 : decode cX10_drop 25 = .ok (.aload_n 0, 1) := dk_42 (dk_at dksX10_drop_1 1 rfl rfl)
theorem dX10_drop_26 : decode cX10_drop 26 = .ok (.dup, 1) := dk_89 (dk_at dksX10_drop_1 2 rfl rfl)
theorem dX10_drop_27 : decode cX10_drop 27 = .ok (.getfield 236, 3) := dk_180 0 236 (dk_at dksX10_drop_1 3 rfl rfl)
theorem dX10_drop_30 : decode cX10_drop 30 = .ok (.iconst 1, 1) := dk_4 (dk_at dksX10_drop_1 6 rfl rfl)
theorem dX10_drop_31 : decode cX10_drop 31 = .ok (.isub, 1) := dk_100 (dk_at dksX10_drop_1 7 rfl rfl)
theorem dX10_drop_32 : decode cX10_drop 32 = .ok (.putfield 236, 3) := dk_181 0 236 (dk_at dksX10_drop_1 8 rfl rfl)
theorem dX10_drop_35 : decode cX10_drop 35 = .ok (.iconst 2, 1) := dk_5 (dk_at dksX10_drop_1 11 rfl rfl)
theorem dX10_drop_36 : decode cX10_drop 36 = .ok (.iload_n 1, 1) := dk_27 (dk_at dksX10_drop_1 12 rfl rfl)
theorem dX10_drop_37 : decode cX10_drop 37 = .ok (.imul, 1) := dk_104 (dk_at dksX10_drop_1 13 rfl rfl)
theorem dX10_drop_38 : decode cX10_drop 38 = .ok (.istore_n 2, 1) := dk_61 (dk_at dksX10_drop_1 14 rfl rfl)
theorem dX10_drop_39 : decode cX10_drop 39 = .ok (.iload_n 2, 1) := dk_28 (dk_at dksX10_drop_1 15 rfl rfl)
theorem dX10_drop_40 : decode cX10_drop 40 = .ok (.iconst 2, 1) := dk_5 (dk_at dksX10_drop_1 16 rfl rfl)
theorem dX10_drop_41 : decode cX10_drop 41 = .ok (.aload_n 0, 1) := dk_42 (dk_at dksX10_drop_1 17 rfl rfl)
theorem dX10_drop_42 : decode cX10_drop 42 = .ok (.getfield 236, 3) := dk_180 0 236 (dk_at dksX10_drop_1 18 rfl rfl)
theorem dX10_drop_45 : decode cX10_drop 45 = .ok (.imul, 1) := dk_104 (dk_at dksX10_drop_1 21 rfl rfl)
theorem dX10_drop_46 : decode cX10_drop 46 = .ok (.if_icmp .ge 23, 3) := dk_162 0 23 (dk_at dksX10_drop_2 0 rfl rfl)
theorem dX10_drop_49 : decode cX10_drop 49 = .ok (.aload_n 0, 1) := dk_42 (dk_at dksX10_drop_2 3 rfl rfl)
theorem dX10_drop_50 : decode cX10_drop 50 = .ok (.getfield 93, 3) := dk_180 0 93 (dk_at dksX10_drop_2 4 rfl rfl)
theorem dX10_drop_53 : decode cX10_drop 53 = .ok (.iload_n 2, 1) := dk_28 (dk_at dksX10_drop_2 7 rfl rfl)
theorem dX10_drop_54 : decode cX10_drop 54 = .ok (.aload_n 0, 1) := dk_42 (dk_at dksX10_drop_2 8 rfl rfl)
theorem dX10_drop_55 : decode cX10_drop 55 = .ok (.getfield 93, 3) := dk_180 0 93 (dk_at dksX10_drop_2 9 rfl rfl)
theorem dX10_drop_58 : decode cX10_drop 58 = .ok (.iload_n 2, 1) := dk_28 (dk_at dksX10_drop_2 12 rfl rfl)
theorem dX10_drop_59 : decode cX10_drop 59 = .ok (.iconst 2, 1) := dk_5 (dk_at dksX10_drop_2 13 rfl rfl)
theorem dX10_drop_60 : decode cX10_drop 60 = .ok (.iadd, 1) := dk_96 (dk_at dksX10_drop_2 14 rfl rfl)
theorem dX10_drop_61 : decode cX10_drop 61 = .ok (.iaload, 1) := dk_46 (dk_at dksX10_drop_2 15 rfl rfl)
theorem dX10_drop_62 : decode cX10_drop 62 = .ok (.iastore, 1) := dk_79 (dk_at dksX10_drop_2 16 rfl rfl)
theorem dX10_drop_63 : decode cX10_drop 63 = .ok (.iinc 2 1, 3) := dk_132 2 1 (dk_at dksX10_drop_2 17 rfl rfl)
theorem dX10_drop_66 : decode cX10_drop 66 = .ok (.goto (-27), 3) := dk_167 255 229 (dk_at dksX10_drop_2 20 rfl rfl)
theorem dX10_drop_69 : decode cX10_drop 69 = .ok (.aload_n 0, 1) := dk_42 (dk_at dksX10_drop_2 23 rfl rfl)
theorem dX10_drop_70 : decode cX10_drop 70 = .ok (.getfield 236, 3) := dk_180 0 236 (dk_at dksX10_drop_3 0 rfl rfl)
theorem dX10_drop_73 : decode cX10_drop 73 = .ok (.ireturn, 1) := dk_172 (dk_at dksX10_drop_3 3 rfl rfl)
abbrev cX10_undo : ByteArray := prog_19_method_117_code
def yX10_undo : MethodName := ⟨RX10, "undo", "()I"⟩
def dkwX10_undo_1 : List UInt8 := [42, 42, 180, 0, 138, 16, 25, 42, 180, 0, 242, 104, 182, 1, 252, 42, 180, 0, 242, 172]
abbrev dktX10_undo_1 : List UInt8 := dkwX10_undo_1 ++ []
def dkwX10_undo_0 : List UInt8 := [42, 3, 181, 0, 3, 42, 180, 0, 242, 154, 0, 5, 2, 172, 42, 89, 180, 0, 242, 4, 100, 181, 0, 242]
abbrev dktX10_undo_0 : List UInt8 := dkwX10_undo_0 ++ dktX10_undo_1
theorem dksX10_undo_0 : cX10_undo.data.toList.drop 0 = dktX10_undo_0 := by decide +kernel
theorem dksX10_undo_1 : cX10_undo.data.toList.drop 24 = dktX10_undo_1 := dk_seg dksX10_undo_0 24 rfl rfl
theorem dX10_undo_0 : decode cX10_undo 0 = .ok (.aload_n 0, 1) := dk_42 (dk_at dksX10_undo_0 0 rfl rfl)
theorem dX10_undo_1 : decode cX10_undo 1 = .ok (.iconst 0, 1) := dk_3 (dk_at dksX10_undo_0 1 rfl rfl)
theorem dX10_undo_2 : decode cX10_undo 2 = .ok (.putfield 3, 3) := dk_181 0 3 (dk_at dksX10_undo_0 2 rfl rfl)
theorem dX10_undo_5 : decode cX10_undo 5 = .ok (.aload_n 0, 1) := dk_42 (dk_at dksX10_undo_0 5 rfl rfl)
theorem dX10_undo_6 : decode cX10_undo 6 = .ok (.getfield 242, 3) := dk_180 0 242 (dk_at dksX10_undo_0 6 rfl rfl)
theorem dX10_undo_9 : decode cX10_undo 9 = .ok (.ifCond .ne 5, 3) := dk_154 0 5 (dk_at dksX10_undo_0 9 rfl rfl)
theorem dX10_undo_12 : decode cX10_undo 12 = .ok (.iconst (-1), 1) := dk_2 (dk_at dksX10_undo_0 12 rfl rfl)
theorem dX10_undo_13 : decode cX10_undo 13 = .ok (.ireturn, 1) := dk_172 (dk_at dksX10_undo_0 13 rfl rfl)
theorem dX10_undo_14 : decode cX10_undo 14 = .ok (.aload_n 0, 1) := dk_42 (dk_at dksX10_undo_0 14 rfl rfl)
theorem dX10_undo_15 : decode cX10_undo 15 = .ok (.dup, 1) := dk_89 (dk_at dksX10_undo_0 15 rfl rfl)
theorem dX10_undo_16 : decode cX10_undo 16 = .ok (.getfield 242, 3) := dk_180 0 242 (dk_at dksX10_undo_0 16 rfl rfl)
theorem dX10_undo_19 : decode cX10_undo 19 = .ok (.iconst 1, 1) := dk_4 (dk_at dksX10_undo_0 19 rfl rfl)
theorem dX10_undo_20 : decode cX10_undo 20 = .ok (.isub, 1) := dk_100 (dk_at dksX10_undo_0 20 rfl rfl)
theorem dX10_undo_21 : decode cX10_undo 21 = .ok (.putfield 242, 3) := dk_181 0 242 (dk_at dksX10_undo_0 21 rfl rfl)
theorem dX10_undo_24 : decode cX10_undo 24 = .ok (.aload_n 0, 1) := dk_42 (dk_at dksX10_undo_1 0 rfl rfl)
theorem dX10_undo_25 : decode cX10_undo 25 = .ok (.aload_n 0, 1) := dk_42 (dk_at dksX10_undo_1 1 rfl rfl)
theorem dX10_undo_26 : decode cX10_undo 26 = .ok (.getfield 138, 3) := dk_180 0 138 (dk_at dksX10_undo_1 2 rfl rfl)
theorem dX10_undo_29 : decode cX10_undo 29 = .ok (.bipush 25, 2) := dk_16 25 (dk_at dksX10_undo_1 5 rfl rfl)
theorem dX10_undo_31 : decode cX10_undo 31 = .ok (.aload_n 0, 1) := dk_42 (dk_at dksX10_undo_1 7 rfl rfl)
theorem dX10_undo_32 : decode cX10_undo 32 = .ok (.getfield 242, 3) := dk_180 0 242 (dk_at dksX10_undo_1 8 rfl rfl)
theorem dX10_undo_35 : decode cX10_undo 35 = .ok (.imul, 1) := dk_104 (dk_at dksX10_undo_1 11 rfl rfl)
theorem dX10_undo_36 : decode cX10_undo 36 = .ok (.invokevirtual 508, 3) := dk_182 1 252 (dk_at dksX10_undo_1 12 rfl rfl)
theorem dX10_undo_39 : decode cX10_undo 39 = .ok (.aload_n 0, 1) := dk_42 (dk_at dksX10_undo_1 15 rfl rfl)
theorem dX10_undo_40 : decode cX10_undo 40 = .ok (.getfield 242, 3) := dk_180 0 242 (dk_at dksX10_undo_1 16 rfl rfl)
theorem dX10_undo_43 : decode cX10_undo 43 = .ok (.ireturn, 1) := dk_172 (dk_at dksX10_undo_1 19 rfl rfl)
abbrev cX10_takesFrom : ByteArray := prog_19_method_112_code
def yX10_takesFrom : MethodName := ⟨RX10, "takesFrom", "([II)V"⟩
def dkwX10_takesFrom_1 : List UInt8 := [167, 255, 236, 42, 43, 28, 16, 24, 96, 46, 181, 0, 236, 177]
abbrev dktX10_takesFrom_1 : List UInt8 := dkwX10_takesFrom_1 ++ []
def dkwX10_takesFrom_0 : List UInt8 := [3, 62, 29, 16, 24, 162, 0, 20, 42, 180, 0, 93, 29, 43, 28, 29, 96, 46, 79, 132, 3, 1]
abbrev dktX10_takesFrom_0 : List UInt8 := dkwX10_takesFrom_0 ++ dktX10_takesFrom_1
theorem dksX10_takesFrom_0 : cX10_takesFrom.data.toList.drop 0 = dktX10_takesFrom_0 := by decide +kernel
theorem dksX10_takesFrom_1 : cX10_takesFrom.data.toList.drop 22 = dktX10_takesFrom_1 := dk_seg dksX10_takesFrom_0 22 rfl rfl
theorem dX10_takesFrom_0 : decode cX10_takesFrom 0 = .ok (.iconst 0, 1) := dk_3 (dk_at dksX10_takesFrom_0 0 rfl rfl)
theorem dX10_takesFrom_1 : decode cX10_takesFrom 1 = .ok (.istore_n 3, 1) := dk_62 (dk_at dksX10_takesFrom_0 1 rfl rfl)
theorem dX10_takesFrom_2 : decode cX10_takesFrom 2 = .ok (.iload_n 3, 1) := dk_29 (dk_at dksX10_takesFrom_0 2 rfl rfl)
theorem dX10_takesFrom_3 : decode cX10_takesFrom 3 = .ok (.bipush 24, 2) := dk_16 24 (dk_at dksX10_takesFrom_0 3 rfl rfl)
theorem dX10_takesFrom_5 : decode cX10_takesFrom 5 = .ok (.if_icmp .ge 20, 3) := dk_162 0 20 (dk_at dksX10_takesFrom_0 5 rfl rfl)
theorem dX10_takesFrom_8 : decode cX10_takesFrom 8 = .ok (.aload_n 0, 1) := dk_42 (dk_at dksX10_takesFrom_0 8 rfl rfl)
theorem dX10_takesFrom_9 : decode cX10_takesFrom 9 = .ok (.getfield 93, 3) := dk_180 0 93 (dk_at dksX10_takesFrom_0 9 rfl rfl)
theorem dX10_takesFrom_12 : decode cX10_takesFrom 12 = .ok (.iload_n 3, 1) := dk_29 (dk_at dksX10_takesFrom_0 12 rfl rfl)
theorem dX10_takesFrom_13 : decode cX10_takesFrom 13 = .ok (.aload_n 1, 1) := dk_43 (dk_at dksX10_takesFrom_0 13 rfl rfl)
theorem dX10_takesFrom_14 : decode cX10_takesFrom 14 = .ok (.iload_n 2, 1) := dk_28 (dk_at dksX10_takesFrom_0 14 rfl rfl)
theorem dX10_takesFrom_15 : decode cX10_takesFrom 15 = .ok (.iload_n 3, 1) := dk_29 (dk_at dksX10_takesFrom_0 15 rfl rfl)
theorem dX10_takesFrom_16 : decode cX10_takesFrom 16 = .ok (.iadd, 1) := dk_96 (dk_at dksX10_takesFrom_0 16 rfl rfl)
theorem dX10_takesFrom_17 : decode cX10_takesFrom 17 = .ok (.iaload, 1) := dk_46 (dk_at dksX10_takesFrom_0 17 rfl rfl)
theorem dX10_takesFrom_18 : decode cX10_takesFrom 18 = .ok (.iastore, 1) := dk_79 (dk_at dksX10_takesFrom_0 18 rfl rfl)
theorem dX10_takesFrom_19 : decode cX10_takesFrom 19 = .ok (.iinc 3 1, 3) := dk_132 3 1 (dk_at dksX10_takesFrom_0 19 rfl rfl)
theorem dX10_takesFrom_22 : decode cX10_takesFrom 22 = .ok (.goto (-20), 3) := dk_167 255 236 (dk_at dksX10_takesFrom_1 0 rfl rfl)
theorem dX10_takesFrom_25 : decode cX10_takesFrom 25 = .ok (.aload_n 0, 1) := dk_42 (dk_at dksX10_takesFrom_1 3 rfl rfl)
theorem dX10_takesFrom_26 : decode cX10_takesFrom 26 = .ok (.aload_n 1, 1) := dk_43 (dk_at dksX10_takesFrom_1 4 rfl rfl)
theorem dX10_takesFrom_27 : decode cX10_takesFrom 27 = .ok (.iload_n 2, 1) := dk_28 (dk_at dksX10_takesFrom_1 5 rfl rfl)
theorem dX10_takesFrom_28 : decode cX10_takesFrom 28 = .ok (.bipush 24, 2) := dk_16 24 (dk_at dksX10_takesFrom_1 6 rfl rfl)
theorem dX10_takesFrom_30 : decode cX10_takesFrom 30 = .ok (.iadd, 1) := dk_96 (dk_at dksX10_takesFrom_1 8 rfl rfl)
theorem dX10_takesFrom_31 : decode cX10_takesFrom 31 = .ok (.iaload, 1) := dk_46 (dk_at dksX10_takesFrom_1 9 rfl rfl)
theorem dX10_takesFrom_32 : decode cX10_takesFrom 32 = .ok (.putfield 236, 3) := dk_181 0 236 (dk_at dksX10_takesFrom_1 10 rfl rfl)
theorem dX10_takesFrom_35 : decode cX10_takesFrom 35 = .ok (.return_, 1) := dk_177 (dk_at dksX10_takesFrom_1 13 rfl rfl)
abbrev cX10_image : ByteArray := prog_19_method_118_code
def yX10_image : MethodName := ⟨RX10, "image", "()I"⟩
def dkwX10_image_4 : List UInt8 := [180, 0, 245, 172]
abbrev dktX10_image_4 : List UInt8 := dkwX10_image_4 ++ []
def dkwX10_image_3 : List UInt8 := [180, 0, 138, 28, 46, 79, 132, 2, 1, 167, 255, 223, 42, 89, 180, 0, 245, 4, 96, 181, 0, 245, 42]
abbrev dktX10_image_3 : List UInt8 := dkwX10_image_3 ++ dktX10_image_4
def dkwX10_image_2 : List UInt8 := [28, 16, 25, 42, 180, 0, 242, 104, 162, 0, 28, 42, 180, 0, 141, 27, 16, 25, 96, 4, 96, 28, 96, 42]
abbrev dktX10_image_2 : List UInt8 := dkwX10_image_2 ++ dktX10_image_3
def dkwX10_image_1 : List UInt8 := [42, 42, 180, 0, 141, 27, 182, 1, 246, 42, 180, 0, 141, 27, 16, 25, 96, 42, 180, 0, 242, 79, 3, 61]
abbrev dktX10_image_1 : List UInt8 := dkwX10_image_1 ++ dktX10_image_2
def dkwX10_image_0 : List UInt8 := [42, 3, 181, 0, 3, 42, 180, 0, 245, 6, 160, 0, 5, 2, 172, 17, 2, 14, 42, 180, 0, 245, 104, 60]
abbrev dktX10_image_0 : List UInt8 := dkwX10_image_0 ++ dktX10_image_1
theorem dksX10_image_0 : cX10_image.data.toList.drop 0 = dktX10_image_0 := by decide +kernel
theorem dksX10_image_1 : cX10_image.data.toList.drop 24 = dktX10_image_1 := dk_seg dksX10_image_0 24 rfl rfl
theorem dksX10_image_2 : cX10_image.data.toList.drop 48 = dktX10_image_2 := dk_seg dksX10_image_1 24 rfl rfl
theorem dksX10_image_3 : cX10_image.data.toList.drop 72 = dktX10_image_3 := dk_seg dksX10_image_2 24 rfl rfl
theorem dksX10_image_4 : cX10_image.data.toList.drop 95 = dktX10_image_4 := dk_seg dksX10_image_3 23 rfl rfl
theorem dX10_image_0 : decode cX10_image 0 = .ok (.aload_n 0, 1) := dk_42 (dk_at dksX10_image_0 0 rfl rfl)
theorem dX10_image_1 : decode cX10_image 1 = .ok (.iconst 0, 1) := dk_3 (dk_at dksX10_image_0 1 rfl rfl)
theorem dX10_image_2 : decode cX10_image 2 = .ok (.putfield 3, 3) := dk_181 0 3 (dk_at dksX10_image_0 2 rfl rfl)
theorem dX10_image_5 : decode cX10_image 5 = .ok (.aload_n 0, 1) := dk_42 (dk_at dksX10_image_0 5 rfl rfl)
theorem dX10_image_6 : decode cX10_image 6 = .ok (.getfield 245, 3) := dk_180 0 245 (dk_at dksX10_image_0 6 rfl rfl)
theorem dX10_image_9 : decode cX10_image 9 = .ok (.iconst 3, 1) := dk_6 (dk_at dksX10_image_0 9 rfl rfl)
theorem dX10_image_10 : decode cX10_image 10 = .ok (.if_icmp .ne 5, 3) := dk_160 0 5 (dk_at dksX10_image_0 10 rfl rfl)
theorem dX10_image_13 : decode cX10_image 13 = .ok (.iconst (-1), 1) := dk_2 (dk_at dksX10_image_0 13 rfl rfl)
theorem dX10_image_14 : decode cX10_image 14 = .ok (.ireturn, 1) := dk_172 (dk_at dksX10_image_0 14 rfl rfl)
theorem dX10_image_15 : decode cX10_image 15 = .ok (.sipush 526, 3) := dk_17 2 14 (dk_at dksX10_image_0 15 rfl rfl)
theorem dX10_image_18 : decode cX10_image 18 = .ok (.aload_n 0, 1) := dk_42 (dk_at dksX10_image_0 18 rfl rfl)
theorem dX10_image_19 : decode cX10_image 19 = .ok (.getfield 245, 3) := dk_180 0 245 (dk_at dksX10_image_0 19 rfl rfl)
theorem dX10_image_22 : decode cX10_image 22 = .ok (.imul, 1) := dk_104 (dk_at dksX10_image_0 22 rfl rfl)
theorem dX10_image_23 : decode cX10_image 23 = .ok (.istore_n 1, 1) := dk_60 (dk_at dksX10_image_0 23 rfl rfl)
theorem dX10_image_24 : decode cX10_image 24 = .ok (.aload_n 0, 1) := dk_42 (dk_at dksX10_image_1 0 rfl rfl)
theorem dX10_image_25 : decode cX10_image 25 = .ok (.aload_n 0, 1) := dk_42 (dk_at dksX10_image_1 1 rfl rfl)
theorem dX10_image_26 : decode cX10_image 26 = .ok (.getfield 141, 3) := dk_180 0 141 (dk_at dksX10_image_1 2 rfl rfl)
theorem dX10_image_29 : decode cX10_image 29 = .ok (.iload_n 1, 1) := dk_27 (dk_at dksX10_image_1 5 rfl rfl)
theorem dX10_image_30 : decode cX10_image 30 = .ok (.invokevirtual 502, 3) := dk_182 1 246 (dk_at dksX10_image_1 6 rfl rfl)
theorem dX10_image_33 : decode cX10_image 33 = .ok (.aload_n 0, 1) := dk_42 (dk_at dksX10_image_1 9 rfl rfl)
theorem dX10_image_34 : decode cX10_image 34 = .ok (.getfield 141, 3) := dk_180 0 141 (dk_at dksX10_image_1 10 rfl rfl)
theorem dX10_image_37 : decode cX10_image 37 = .ok (.iload_n 1, 1) := dk_27 (dk_at dksX10_image_1 13 rfl rfl)
theorem dX10_image_38 : decode cX10_image 38 = .ok (.bipush 25, 2) := dk_16 25 (dk_at dksX10_image_1 14 rfl rfl)
theorem dX10_image_40 : decode cX10_image 40 = .ok (.iadd, 1) := dk_96 (dk_at dksX10_image_1 16 rfl rfl)
theorem dX10_image_41 : decode cX10_image 41 = .ok (.aload_n 0, 1) := dk_42 (dk_at dksX10_image_1 17 rfl rfl)
theorem dX10_image_42 : decode cX10_image 42 = .ok (.getfield 242, 3) := dk_180 0 242 (dk_at dksX10_image_1 18 rfl rfl)
theorem dX10_image_45 : decode cX10_image 45 = .ok (.iastore, 1) := dk_79 (dk_at dksX10_image_1 21 rfl rfl)
theorem dX10_image_46 : decode cX10_image 46 = .ok (.iconst 0, 1) := dk_3 (dk_at dksX10_image_1 22 rfl rfl)
theorem dX10_image_47 : decode cX10_image 47 = .ok (.istore_n 2, 1) := dk_61 (dk_at dksX10_image_1 23 rfl rfl)
theorem dX10_image_48 : decode cX10_image 48 = .ok (.iload_n 2, 1) := dk_28 (dk_at dksX10_image_2 0 rfl rfl)
theorem dX10_image_49 : decode cX10_image 49 = .ok (.bipush 25, 2) := dk_16 25 (dk_at dksX10_image_2 1 rfl rfl)
theorem dX10_image_51 : decode cX10_image 51 = .ok (.aload_n 0, 1) := dk_42 (dk_at dksX10_image_2 3 rfl rfl)
theorem dX10_image_52 : decode cX10_image 52 = .ok (.getfield 242, 3) := dk_180 0 242 (dk_at dksX10_image_2 4 rfl rfl)
theorem dX10_image_55 : decode cX10_image 55 = .ok (.imul, 1) := dk_104 (dk_at dksX10_image_2 7 rfl rfl)
theorem dX10_image_56 : decode cX10_image 56 = .ok (.if_icmp .ge 28, 3) := dk_162 0 28 (dk_at dksX10_image_2 8 rfl rfl)
theorem dX10_image_59 : decode cX10_image 59 = .ok (.aload_n 0, 1) := dk_42 (dk_at dksX10_image_2 11 rfl rfl)
theorem dX10_image_60 : decode cX10_image 60 = .ok (.getfield 141, 3) := dk_180 0 141 (dk_at dksX10_image_2 12 rfl rfl)
theorem dX10_image_63 : decode cX10_image 63 = .ok (.iload_n 1, 1) := dk_27 (dk_at dksX10_image_2 15 rfl rfl)
theorem dX10_image_64 : decode cX10_image 64 = .ok (.bipush 25, 2) := dk_16 25 (dk_at dksX10_image_2 16 rfl rfl)
theorem dX10_image_66 : decode cX10_image 66 = .ok (.iadd, 1) := dk_96 (dk_at dksX10_image_2 18 rfl rfl)
theorem dX10_image_67 : decode cX10_image 67 = .ok (.iconst 1, 1) := dk_4 (dk_at dksX10_image_2 19 rfl rfl)
theorem dX10_image_68 : decode cX10_image 68 = .ok (.iadd, 1) := dk_96 (dk_at dksX10_image_2 20 rfl rfl)
theorem dX10_image_69 : decode cX10_image 69 = .ok (.iload_n 2, 1) := dk_28 (dk_at dksX10_image_2 21 rfl rfl)
theorem dX10_image_70 : decode cX10_image 70 = .ok (.iadd, 1) := dk_96 (dk_at dksX10_image_2 22 rfl rfl)
theorem dX10_image_71 : decode cX10_image 71 = .ok (.aload_n 0, 1) := dk_42 (dk_at dksX10_image_2 23 rfl rfl)
theorem dX10_image_72 : decode cX10_image 72 = .ok (.getfield 138, 3) := dk_180 0 138 (dk_at dksX10_image_3 0 rfl rfl)
theorem dX10_image_75 : decode cX10_image 75 = .ok (.iload_n 2, 1) := dk_28 (dk_at dksX10_image_3 3 rfl rfl)
theorem dX10_image_76 : decode cX10_image 76 = .ok (.iaload, 1) := dk_46 (dk_at dksX10_image_3 4 rfl rfl)
theorem dX10_image_77 : decode cX10_image 77 = .ok (.iastore, 1) := dk_79 (dk_at dksX10_image_3 5 rfl rfl)
theorem dX10_image_78 : decode cX10_image 78 = .ok (.iinc 2 1, 3) := dk_132 2 1 (dk_at dksX10_image_3 6 rfl rfl)
theorem dX10_image_81 : decode cX10_image 81 = .ok (.goto (-33), 3) := dk_167 255 223 (dk_at dksX10_image_3 9 rfl rfl)
theorem dX10_image_84 : decode cX10_image 84 = .ok (.aload_n 0, 1) := dk_42 (dk_at dksX10_image_3 12 rfl rfl)
theorem dX10_image_85 : decode cX10_image 85 = .ok (.dup, 1) := dk_89 (dk_at dksX10_image_3 13 rfl rfl)
theorem dX10_image_86 : decode cX10_image 86 = .ok (.getfield 245, 3) := dk_180 0 245 (dk_at dksX10_image_3 14 rfl rfl)
theorem dX10_image_89 : decode cX10_image 89 = .ok (.iconst 1, 1) := dk_4 (dk_at dksX10_image_3 17 rfl rfl)
theorem dX10_image_90 : decode cX10_image 90 = .ok (.iadd, 1) := dk_96 (dk_at dksX10_image_3 18 rfl rfl)
theorem dX10_image_91 : decode cX10_image 91 = .ok (.putfield 245, 3) := dk_181 0 245 (dk_at dksX10_image_3 19 rfl rfl)
theorem dX10_image_94 : decode cX10_image 94 = .ok (.aload_n 0, 1) := dk_42 (dk_at dksX10_image_3 22 rfl rfl)
theorem dX10_image_95 : decode cX10_image 95 = .ok (.getfield 245, 3) := dk_180 0 245 (dk_at dksX10_image_4 0 rfl rfl)
theorem dX10_image_98 : decode cX10_image 98 = .ok (.ireturn, 1) := dk_172 (dk_at dksX10_image_4 3 rfl rfl)
abbrev cX10_restore : ByteArray := prog_19_method_119_code
def yX10_restore : MethodName := ⟨RX10, "restore", "()I"⟩
def dkwX10_restore_4 : List UInt8 := [180, 0, 245, 172]
abbrev dktX10_restore_4 : List UInt8 := dkwX10_restore_4 ++ []
def dkwX10_restore_3 : List UInt8 := [28, 42, 180, 0, 141, 27, 16, 25, 96, 4, 96, 28, 96, 46, 79, 132, 2, 1, 167, 255, 223, 42]
abbrev dktX10_restore_3 : List UInt8 := dkwX10_restore_3 ++ dktX10_restore_4
def dkwX10_restore_2 : List UInt8 := [16, 25, 96, 46, 181, 0, 242, 3, 61, 28, 16, 25, 42, 180, 0, 242, 104, 162, 0, 28, 42, 180, 0, 138]
abbrev dktX10_restore_2 : List UInt8 := dkwX10_restore_2 ++ dktX10_restore_3
def dkwX10_restore_1 : List UInt8 := [17, 2, 14, 42, 180, 0, 245, 104, 60, 42, 42, 180, 0, 141, 27, 182, 1, 252, 42, 42, 180, 0, 141, 27]
abbrev dktX10_restore_1 : List UInt8 := dkwX10_restore_1 ++ dktX10_restore_2
def dkwX10_restore_0 : List UInt8 := [42, 3, 181, 0, 3, 42, 180, 0, 245, 154, 0, 5, 2, 172, 42, 89, 180, 0, 245, 4, 100, 181, 0, 245]
abbrev dktX10_restore_0 : List UInt8 := dkwX10_restore_0 ++ dktX10_restore_1
theorem dksX10_restore_0 : cX10_restore.data.toList.drop 0 = dktX10_restore_0 := by decide +kernel
theorem dksX10_restore_1 : cX10_restore.data.toList.drop 24 = dktX10_restore_1 := dk_seg dksX10_restore_0 24 rfl rfl
theorem dksX10_restore_2 : cX10_restore.data.toList.drop 48 = dktX10_restore_2 := dk_seg dksX10_restore_1 24 rfl rfl
theorem dksX10_restore_3 : cX10_restore.data.toList.drop 72 = dktX10_restore_3 := dk_seg dksX10_restore_2 24 rfl rfl
theorem dksX10_restore_4 : cX10_restore.data.toList.drop 94 = dktX10_restore_4 := dk_seg dksX10_restore_3 22 rfl rfl
theorem dX10_restore_0 : decode cX10_restore 0 = .ok (.aload_n 0, 1) := dk_42 (dk_at dksX10_restore_0 0 rfl rfl)
theorem dX10_restore_1 : decode cX10_restore 1 = .ok (.iconst 0, 1) := dk_3 (dk_at dksX10_restore_0 1 rfl rfl)
theorem dX10_restore_2 : decode cX10_restore 2 = .ok (.putfield 3, 3) := dk_181 0 3 (dk_at dksX10_restore_0 2 rfl rfl)
theorem dX10_restore_5 : decode cX10_restore 5 = .ok (.aload_n 0, 1) := dk_42 (dk_at dksX10_restore_0 5 rfl rfl)
theorem dX10_restore_6 : decode cX10_restore 6 = .ok (.getfield 245, 3) := dk_180 0 245 (dk_at dksX10_restore_0 6 rfl rfl)
theorem dX10_restore_9 : decode cX10_restore 9 = .ok (.ifCond .ne 5, 3) := dk_154 0 5 (dk_at dksX10_restore_0 9 rfl rfl)
theorem dX10_restore_12 : decode cX10_restore 12 = .ok (.iconst (-1), 1) := dk_2 (dk_at dksX10_restore_0 12 rfl rfl)
theorem dX10_restore_13 : decode cX10_restore 13 = .ok (.ireturn, 1) := dk_172 (dk_at dksX10_restore_0 13 rfl rfl)
theorem dX10_restore_14 : decode cX10_restore 14 = .ok (.aload_n 0, 1) := dk_42 (dk_at dksX10_restore_0 14 rfl rfl)
theorem dX10_restore_15 : decode cX10_restore 15 = .ok (.dup, 1) := dk_89 (dk_at dksX10_restore_0 15 rfl rfl)
theorem dX10_restore_16 : decode cX10_restore 16 = .ok (.getfield 245, 3) := dk_180 0 245 (dk_at dksX10_restore_0 16 rfl rfl)
theorem dX10_restore_19 : decode cX10_restore 19 = .ok (.iconst 1, 1) := dk_4 (dk_at dksX10_restore_0 19 rfl rfl)
theorem dX10_restore_20 : decode cX10_restore 20 = .ok (.isub, 1) := dk_100 (dk_at dksX10_restore_0 20 rfl rfl)
theorem dX10_restore_21 : decode cX10_restore 21 = .ok (.putfield 245, 3) := dk_181 0 245 (dk_at dksX10_restore_0 21 rfl rfl)
theorem dX10_restore_24 : decode cX10_restore 24 = .ok (.sipush 526, 3) := dk_17 2 14 (dk_at dksX10_restore_1 0 rfl rfl)
theorem dX10_restore_27 : decode cX10_restore 27 = .ok (.aload_n 0, 1) := dk_42 (dk_at dksX10_restore_1 3 rfl rfl)
theorem dX10_restore_28 : decode cX10_restore 28 = .ok (.getfield 245, 3) := dk_180 0 245 (dk_at dksX10_restore_1 4 rfl rfl)
theorem dX10_restore_31 : decode cX10_restore 31 = .ok (.imul, 1) := dk_104 (dk_at dksX10_restore_1 7 rfl rfl)
theorem dX10_restore_32 : decode cX10_restore 32 = .ok (.istore_n 1, 1) := dk_60 (dk_at dksX10_restore_1 8 rfl rfl)
theorem dX10_restore_33 : decode cX10_restore 33 = .ok (.aload_n 0, 1) := dk_42 (dk_at dksX10_restore_1 9 rfl rfl)
theorem dX10_restore_34 : decode cX10_restore 34 = .ok (.aload_n 0, 1) := dk_42 (dk_at dksX10_restore_1 10 rfl rfl)
theorem dX10_restore_35 : decode cX10_restore 35 = .ok (.getfield 141, 3) := dk_180 0 141 (dk_at dksX10_restore_1 11 rfl rfl)
theorem dX10_restore_38 : decode cX10_restore 38 = .ok (.iload_n 1, 1) := dk_27 (dk_at dksX10_restore_1 14 rfl rfl)
theorem dX10_restore_39 : decode cX10_restore 39 = .ok (.invokevirtual 508, 3) := dk_182 1 252 (dk_at dksX10_restore_1 15 rfl rfl)
theorem dX10_restore_42 : decode cX10_restore 42 = .ok (.aload_n 0, 1) := dk_42 (dk_at dksX10_restore_1 18 rfl rfl)
theorem dX10_restore_43 : decode cX10_restore 43 = .ok (.aload_n 0, 1) := dk_42 (dk_at dksX10_restore_1 19 rfl rfl)
theorem dX10_restore_44 : decode cX10_restore 44 = .ok (.getfield 141, 3) := dk_180 0 141 (dk_at dksX10_restore_1 20 rfl rfl)
theorem dX10_restore_47 : decode cX10_restore 47 = .ok (.iload_n 1, 1) := dk_27 (dk_at dksX10_restore_1 23 rfl rfl)
theorem dX10_restore_48 : decode cX10_restore 48 = .ok (.bipush 25, 2) := dk_16 25 (dk_at dksX10_restore_2 0 rfl rfl)
theorem dX10_restore_50 : decode cX10_restore 50 = .ok (.iadd, 1) := dk_96 (dk_at dksX10_restore_2 2 rfl rfl)
theorem dX10_restore_51 : decode cX10_restore 51 = .ok (.iaload, 1) := dk_46 (dk_at dksX10_restore_2 3 rfl rfl)
theorem dX10_restore_52 : decode cX10_restore 52 = .ok (.putfield 242, 3) := dk_181 0 242 (dk_at dksX10_restore_2 4 rfl rfl)
theorem dX10_restore_55 : decode cX10_restore 55 = .ok (.iconst 0, 1) := dk_3 (dk_at dksX10_restore_2 7 rfl rfl)
theorem dX10_restore_56 : decode cX10_restore 56 = .ok (.istore_n 2, 1) := dk_61 (dk_at dksX10_restore_2 8 rfl rfl)
theorem dX10_restore_57 : decode cX10_restore 57 = .ok (.iload_n 2, 1) := dk_28 (dk_at dksX10_restore_2 9 rfl rfl)
theorem dX10_restore_58 : decode cX10_restore 58 = .ok (.bipush 25, 2) := dk_16 25 (dk_at dksX10_restore_2 10 rfl rfl)
theorem dX10_restore_60 : decode cX10_restore 60 = .ok (.aload_n 0, 1) := dk_42 (dk_at dksX10_restore_2 12 rfl rfl)
theorem dX10_restore_61 : decode cX10_restore 61 = .ok (.getfield 242, 3) := dk_180 0 242 (dk_at dksX10_restore_2 13 rfl rfl)
theorem dX10_restore_64 : decode cX10_restore 64 = .ok (.imul, 1) := dk_104 (dk_at dksX10_restore_2 16 rfl rfl)
theorem dX10_restore_65 : decode cX10_restore 65 = .ok (.if_icmp .ge 28, 3) := dk_162 0 28 (dk_at dksX10_restore_2 17 rfl rfl)
theorem dX10_restore_68 : decode cX10_restore 68 = .ok (.aload_n 0, 1) := dk_42 (dk_at dksX10_restore_2 20 rfl rfl)
theorem dX10_restore_69 : decode cX10_restore 69 = .ok (.getfield 138, 3) := dk_180 0 138 (dk_at dksX10_restore_2 21 rfl rfl)
theorem dX10_restore_72 : decode cX10_restore 72 = .ok (.iload_n 2, 1) := dk_28 (dk_at dksX10_restore_3 0 rfl rfl)
theorem dX10_restore_73 : decode cX10_restore 73 = .ok (.aload_n 0, 1) := dk_42 (dk_at dksX10_restore_3 1 rfl rfl)
theorem dX10_restore_74 : decode cX10_restore 74 = .ok (.getfield 141, 3) := dk_180 0 141 (dk_at dksX10_restore_3 2 rfl rfl)
theorem dX10_restore_77 : decode cX10_restore 77 = .ok (.iload_n 1, 1) := dk_27 (dk_at dksX10_restore_3 5 rfl rfl)
theorem dX10_restore_78 : decode cX10_restore 78 = .ok (.bipush 25, 2) := dk_16 25 (dk_at dksX10_restore_3 6 rfl rfl)
theorem dX10_restore_80 : decode cX10_restore 80 = .ok (.iadd, 1) := dk_96 (dk_at dksX10_restore_3 8 rfl rfl)
theorem dX10_restore_81 : decode cX10_restore 81 = .ok (.iconst 1, 1) := dk_4 (dk_at dksX10_restore_3 9 rfl rfl)
theorem dX10_restore_82 : decode cX10_restore 82 = .ok (.iadd, 1) := dk_96 (dk_at dksX10_restore_3 10 rfl rfl)
theorem dX10_restore_83 : decode cX10_restore 83 = .ok (.iload_n 2, 1) := dk_28 (dk_at dksX10_restore_3 11 rfl rfl)
theorem dX10_restore_84 : decode cX10_restore 84 = .ok (.iadd, 1) := dk_96 (dk_at dksX10_restore_3 12 rfl rfl)
theorem dX10_restore_85 : decode cX10_restore 85 = .ok (.iaload, 1) := dk_46 (dk_at dksX10_restore_3 13 rfl rfl)
theorem dX10_restore_86 : decode cX10_restore 86 = .ok (.iastore, 1) := dk_79 (dk_at dksX10_restore_3 14 rfl rfl)
theorem dX10_restore_87 : decode cX10_restore 87 = .ok (.iinc 2 1, 3) := dk_132 2 1 (dk_at dksX10_restore_3 15 rfl rfl)
theorem dX10_restore_90 : decode cX10_restore 90 = .ok (.goto (-33), 3) := dk_167 255 223 (dk_at dksX10_restore_3 18 rfl rfl)
theorem dX10_restore_93 : decode cX10_restore 93 = .ok (.aload_n 0, 1) := dk_42 (dk_at dksX10_restore_3 21 rfl rfl)
theorem dX10_restore_94 : decode cX10_restore 94 = .ok (.getfield 245, 3) := dk_180 0 245 (dk_at dksX10_restore_4 0 rfl rfl)
theorem dX10_restore_97 : decode cX10_restore 97 = .ok (.ireturn, 1) := dk_172 (dk_at dksX10_restore_4 3 rfl rfl)
abbrev cX10_status : ByteArray := prog_19_method_120_code
def yX10_status : MethodName := ⟨RX10, "status", "(I)I"⟩
def dkwX10_status_1 : List UInt8 := [172]
abbrev dktX10_status_1 : List UInt8 := dkwX10_status_1 ++ []
def dkwX10_status_0 : List UInt8 := [42, 3, 181, 0, 3, 27, 3, 5, 184, 1, 108, 153, 0, 12, 42, 180, 0, 7, 27, 46, 167, 0, 4, 2]
abbrev dktX10_status_0 : List UInt8 := dkwX10_status_0 ++ dktX10_status_1
theorem dksX10_status_0 : cX10_status.data.toList.drop 0 = dktX10_status_0 := by decide +kernel
theorem dksX10_status_1 : cX10_status.data.toList.drop 24 = dktX10_status_1 := dk_seg dksX10_status_0 24 rfl rfl
theorem dX10_status_0 : decode cX10_status 0 = .ok (.aload_n 0, 1) := dk_42 (dk_at dksX10_status_0 0 rfl rfl)
theorem dX10_status_1 : decode cX10_status 1 = .ok (.iconst 0, 1) := dk_3 (dk_at dksX10_status_0 1 rfl rfl)
theorem dX10_status_2 : decode cX10_status 2 = .ok (.putfield 3, 3) := dk_181 0 3 (dk_at dksX10_status_0 2 rfl rfl)
theorem dX10_status_5 : decode cX10_status 5 = .ok (.iload_n 1, 1) := dk_27 (dk_at dksX10_status_0 5 rfl rfl)
theorem dX10_status_6 : decode cX10_status 6 = .ok (.iconst 0, 1) := dk_3 (dk_at dksX10_status_0 6 rfl rfl)
theorem dX10_status_7 : decode cX10_status 7 = .ok (.iconst 2, 1) := dk_5 (dk_at dksX10_status_0 7 rfl rfl)
theorem dX10_status_8 : decode cX10_status 8 = .ok (.invokestatic 364, 3) := dk_184 1 108 (dk_at dksX10_status_0 8 rfl rfl)
theorem dX10_status_11 : decode cX10_status 11 = .ok (.ifCond .eq 12, 3) := dk_153 0 12 (dk_at dksX10_status_0 11 rfl rfl)
theorem dX10_status_14 : decode cX10_status 14 = .ok (.aload_n 0, 1) := dk_42 (dk_at dksX10_status_0 14 rfl rfl)
theorem dX10_status_15 : decode cX10_status 15 = .ok (.getfield 7, 3) := dk_180 0 7 (dk_at dksX10_status_0 15 rfl rfl)
theorem dX10_status_18 : decode cX10_status 18 = .ok (.iload_n 1, 1) := dk_27 (dk_at dksX10_status_0 18 rfl rfl)
theorem dX10_status_19 : decode cX10_status 19 = .ok (.iaload, 1) := dk_46 (dk_at dksX10_status_0 19 rfl rfl)
theorem dX10_status_20 : decode cX10_status 20 = .ok (.goto 4, 3) := dk_167 0 4 (dk_at dksX10_status_0 20 rfl rfl)
theorem dX10_status_23 : decode cX10_status 23 = .ok (.iconst (-1), 1) := dk_2 (dk_at dksX10_status_0 23 rfl rfl)
theorem dX10_status_24 : decode cX10_status 24 = .ok (.ireturn, 1) := dk_172 (dk_at dksX10_status_1 0 rfl rfl)
abbrev cX10_count : ByteArray := prog_19_method_121_code
def yX10_count : MethodName := ⟨RX10, "count", "(I)I"⟩
def dkwX10_count_1 : List UInt8 := [180, 0, 150, 167, 0, 16, 27, 5, 160, 0, 10, 42, 180, 0, 242, 167, 0, 4, 2, 172]
abbrev dktX10_count_1 : List UInt8 := dkwX10_count_1 ++ []
def dkwX10_count_0 : List UInt8 := [42, 3, 181, 0, 3, 27, 154, 0, 10, 42, 180, 0, 245, 167, 0, 28, 27, 4, 160, 0, 10, 42]
abbrev dktX10_count_0 : List UInt8 := dkwX10_count_0 ++ dktX10_count_1
theorem dksX10_count_0 : cX10_count.data.toList.drop 0 = dktX10_count_0 := by decide +kernel
theorem dksX10_count_1 : cX10_count.data.toList.drop 22 = dktX10_count_1 := dk_seg dksX10_count_0 22 rfl rfl
theorem dX10_count_0 : decode cX10_count 0 = .ok (.aload_n 0, 1) := dk_42 (dk_at dksX10_count_0 0 rfl rfl)
theorem dX10_count_1 : decode cX10_count 1 = .ok (.iconst 0, 1) := dk_3 (dk_at dksX10_count_0 1 rfl rfl)
theorem dX10_count_2 : decode cX10_count 2 = .ok (.putfield 3, 3) := dk_181 0 3 (dk_at dksX10_count_0 2 rfl rfl)
theorem dX10_count_5 : decode cX10_count 5 = .ok (.iload_n 1, 1) := dk_27 (dk_at dksX10_count_0 5 rfl rfl)
theorem dX10_count_6 : decode cX10_count 6 = .ok (.ifCond .ne 10, 3) := dk_154 0 10 (dk_at dksX10_count_0 6 rfl rfl)
theorem dX10_count_9 : decode cX10_count 9 = .ok (.aload_n 0, 1) := dk_42 (dk_at dksX10_count_0 9 rfl rfl)
theorem dX10_count_10 : decode cX10_count 10 = .ok (.getfield 245, 3) := dk_180 0 245 (dk_at dksX10_count_0 10 rfl rfl)
theorem dX10_count_13 : decode cX10_count 13 = .ok (.goto 28, 3) := dk_167 0 28 (dk_at dksX10_count_0 13 rfl rfl)
theorem dX10_count_16 : decode cX10_count 16 = .ok (.iload_n 1, 1) := dk_27 (dk_at dksX10_count_0 16 rfl rfl)
theorem dX10_count_17 : decode cX10_count 17 = .ok (.iconst 1, 1) := dk_4 (dk_at dksX10_count_0 17 rfl rfl)
theorem dX10_count_18 : decode cX10_count 18 = .ok (.if_icmp .ne 10, 3) := dk_160 0 10 (dk_at dksX10_count_0 18 rfl rfl)
theorem dX10_count_21 : decode cX10_count 21 = .ok (.aload_n 0, 1) := dk_42 (dk_at dksX10_count_0 21 rfl rfl)
theorem dX10_count_22 : decode cX10_count 22 = .ok (.getfield 150, 3) := dk_180 0 150 (dk_at dksX10_count_1 0 rfl rfl)
theorem dX10_count_25 : decode cX10_count 25 = .ok (.goto 16, 3) := dk_167 0 16 (dk_at dksX10_count_1 3 rfl rfl)
theorem dX10_count_28 : decode cX10_count 28 = .ok (.iload_n 1, 1) := dk_27 (dk_at dksX10_count_1 6 rfl rfl)
theorem dX10_count_29 : decode cX10_count 29 = .ok (.iconst 2, 1) := dk_5 (dk_at dksX10_count_1 7 rfl rfl)
theorem dX10_count_30 : decode cX10_count 30 = .ok (.if_icmp .ne 10, 3) := dk_160 0 10 (dk_at dksX10_count_1 8 rfl rfl)
theorem dX10_count_33 : decode cX10_count 33 = .ok (.aload_n 0, 1) := dk_42 (dk_at dksX10_count_1 11 rfl rfl)
theorem dX10_count_34 : decode cX10_count 34 = .ok (.getfield 242, 3) := dk_180 0 242 (dk_at dksX10_count_1 12 rfl rfl)
theorem dX10_count_37 : decode cX10_count 37 = .ok (.goto 4, 3) := dk_167 0 4 (dk_at dksX10_count_1 15 rfl rfl)
theorem dX10_count_40 : decode cX10_count 40 = .ok (.iconst (-1), 1) := dk_2 (dk_at dksX10_count_1 18 rfl rfl)
theorem dX10_count_41 : decode cX10_count 41 = .ok (.ireturn, 1) := dk_172 (dk_at dksX10_count_1 19 rfl rfl)
theorem q105 : (Jvm.Cond.initialized "RainWheelModel") ∈ lw_all := lw_g (lw_at lw_m1 10 rfl) rfl
theorem q1527 : (Jvm.Cond.instanceMethod ({ cls := "RainWheelModel", name := "thrown", desc := "()I" } : Jvm.MethodName)) ∈ lw_all := lw_g (lw_at lw_m6 232 rfl) rfl
theorem q1528 : (Jvm.Cond.selects "RainWheelModel" ({ cls := "RainWheelModel", name := "thrown", desc := "()I" } : Jvm.MethodName) ({ cls := "RainWheelModel", name := "thrown", desc := "()I" } : Jvm.MethodName)) ∈ lw_all := lw_g (lw_at lw_m6 233 rfl) rfl
theorem q1529 : (Jvm.Cond.code ({ cls := "RainWheelModel", name := "thrown", desc := "()I" } : Jvm.MethodName) prog_19_method_1_code (1 : Nat) (Option.some Jvm.ClassFile.FieldType.int)) ∈ lw_all := lw_g (lw_at lw_m6 234 rfl) rfl
theorem q1531 : (Jvm.Cond.instantiable "RainWheelModel" (73 : Nat)) ∈ lw_all := lw_g (lw_at lw_m6 236 rfl) rfl
theorem q1533 : (Jvm.Cond.instanceMethod ({ cls := "RainWheelModel", name := "<init>", desc := "()V" } : Jvm.MethodName)) ∈ lw_all := lw_g (lw_at lw_m6 238 rfl) rfl
theorem q1534 : (Jvm.Cond.code ({ cls := "RainWheelModel", name := "<init>", desc := "()V" } : Jvm.MethodName) prog_19_method_4_code (1 : Nat) (Option.none : Option Jvm.ClassFile.FieldType)) ∈ lw_all := lw_g (lw_at lw_m6 239 rfl) rfl
theorem q1535 : (Jvm.Cond.methodLink "RainWheelModel" (11 : Nat) ({ cls := "java/lang/Object", name := "<init>", desc := "()V" } : Jvm.MethodName)) ∈ lw_all := lw_g (lw_at lw_m7 0 rfl) rfl
theorem q1536 : (Jvm.Cond.methodLink "RainWheelModel" (144 : Nat) ({ cls := "RainWheelModel", name := "clears", desc := "()V" } : Jvm.MethodName)) ∈ lw_all := lw_g (lw_at lw_m7 1 rfl) rfl
theorem q1537 : (Jvm.Cond.privateMethod ({ cls := "RainWheelModel", name := "clears", desc := "()V" } : Jvm.MethodName)) ∈ lw_tbl := lw_at lw_m7 2 rfl
theorem q1538 : (Jvm.Cond.instanceMethod ({ cls := "RainWheelModel", name := "clears", desc := "()V" } : Jvm.MethodName)) ∈ lw_all := lw_g (lw_at lw_m7 3 rfl) rfl
theorem q1539 : (Jvm.Cond.code ({ cls := "RainWheelModel", name := "clears", desc := "()V" } : Jvm.MethodName) prog_19_method_20_code (2 : Nat) (Option.none : Option Jvm.ClassFile.FieldType)) ∈ lw_all := lw_g (lw_at lw_m7 4 rfl) rfl
theorem q1540 : (Jvm.Cond.methodLink "RainWheelModel" (147 : Nat) ({ cls := "RainWheelModel", name := "sets", desc := "()V" } : Jvm.MethodName)) ∈ lw_all := lw_g (lw_at lw_m7 5 rfl) rfl
theorem q1541 : (Jvm.Cond.privateMethod ({ cls := "RainWheelModel", name := "sets", desc := "()V" } : Jvm.MethodName)) ∈ lw_tbl := lw_at lw_m7 6 rfl
theorem q1542 : (Jvm.Cond.instanceMethod ({ cls := "RainWheelModel", name := "sets", desc := "()V" } : Jvm.MethodName)) ∈ lw_all := lw_g (lw_at lw_m7 7 rfl) rfl
theorem q1543 : (Jvm.Cond.code ({ cls := "RainWheelModel", name := "sets", desc := "()V" } : Jvm.MethodName) prog_19_method_22_code (2 : Nat) (Option.none : Option Jvm.ClassFile.FieldType)) ∈ lw_all := lw_g (lw_at lw_m7 8 rfl) rfl
theorem q1544 : (Jvm.Cond.methodLink "RainWheelModel" (229 : Nat) ({ cls := "RainWheelModel", name := "copies", desc := "([I[II)V" } : Jvm.MethodName)) ∈ lw_all := lw_g (lw_at lw_m7 9 rfl) rfl
theorem q1545 : (Jvm.Cond.privateMethod ({ cls := "RainWheelModel", name := "copies", desc := "([I[II)V" } : Jvm.MethodName)) ∈ lw_tbl := lw_at lw_m7 10 rfl
theorem q1546 : (Jvm.Cond.instanceMethod ({ cls := "RainWheelModel", name := "copies", desc := "([I[II)V" } : Jvm.MethodName)) ∈ lw_all := lw_g (lw_at lw_m7 11 rfl) rfl
theorem q1547 : (Jvm.Cond.code ({ cls := "RainWheelModel", name := "copies", desc := "([I[II)V" } : Jvm.MethodName) prog_19_method_21_code (5 : Nat) (Option.none : Option Jvm.ClassFile.FieldType)) ∈ lw_all := lw_g (lw_at lw_m7 12 rfl) rfl
theorem q1548 : (Jvm.Cond.fieldLink "RainWheelModel" (3 : Nat) "RainWheelModel" "thrown" "I") ∈ lw_all := lw_g (lw_at lw_m7 13 rfl) rfl
theorem q1549 : (Jvm.Cond.fieldLink "RainWheelModel" (7 : Nat) "RainWheelModel" "refused" "[I") ∈ lw_all := lw_g (lw_at lw_m7 14 rfl) rfl
theorem q1550 : (Jvm.Cond.fieldLink "RainWheelModel" (150 : Nat) "RainWheelModel" "taped" "I") ∈ lw_all := lw_g (lw_at lw_m7 15 rfl) rfl
theorem q1551 : (Jvm.Cond.fieldLink "RainWheelModel" (162 : Nat) "RainWheelModel" "size" "I") ∈ lw_all := lw_g (lw_at lw_m7 16 rfl) rfl
theorem q1552 : (Jvm.Cond.fieldLink "RainWheelModel" (159 : Nat) "RainWheelModel" "at" "I") ∈ lw_all := lw_g (lw_at lw_m7 17 rfl) rfl
theorem q1553 : (Jvm.Cond.fieldLink "RainWheelModel" (153 : Nat) "RainWheelModel" "bad" "I") ∈ lw_all := lw_g (lw_at lw_m7 18 rfl) rfl
theorem q1554 : (Jvm.Cond.fieldLink "RainWheelModel" (156 : Nat) "RainWheelModel" "badKind" "I") ∈ lw_all := lw_g (lw_at lw_m7 19 rfl) rfl
theorem q1555 : (Jvm.Cond.fieldLink "RainWheelModel" (193 : Nat) "RainWheelModel" "opens" "I") ∈ lw_all := lw_g (lw_at lw_m7 20 rfl) rfl
theorem q1556 : (Jvm.Cond.fieldLink "RainWheelModel" (17 : Nat) "RainWheelModel" "faultAt" "I") ∈ lw_all := lw_g (lw_at lw_m7 21 rfl) rfl
theorem q1557 : (Jvm.Cond.fieldLink "RainWheelModel" (20 : Nat) "RainWheelModel" "tape" "[I") ∈ lw_all := lw_g (lw_at lw_m7 22 rfl) rfl
theorem q1558 : (Jvm.Cond.fieldLink "RainWheelModel" (23 : Nat) "RainWheelModel" "newStrong" "[I") ∈ lw_all := lw_g (lw_at lw_m7 23 rfl) rfl
theorem q1559 : (Jvm.Cond.fieldLink "RainWheelModel" (26 : Nat) "RainWheelModel" "newDeed" "[I") ∈ lw_all := lw_g (lw_at lw_m7 24 rfl) rfl
theorem q1560 : (Jvm.Cond.fieldLink "RainWheelModel" (29 : Nat) "RainWheelModel" "newBears" "[I") ∈ lw_all := lw_g (lw_at lw_m7 25 rfl) rfl
theorem q1561 : (Jvm.Cond.fieldLink "RainWheelModel" (32 : Nat) "RainWheelModel" "newBoard" "[I") ∈ lw_all := lw_g (lw_at lw_m7 26 rfl) rfl
theorem q1562 : (Jvm.Cond.fieldLink "RainWheelModel" (35 : Nat) "RainWheelModel" "newNut" "[I") ∈ lw_all := lw_g (lw_at lw_m7 27 rfl) rfl
theorem q1563 : (Jvm.Cond.fieldLink "RainWheelModel" (38 : Nat) "RainWheelModel" "newCause" "[I") ∈ lw_all := lw_g (lw_at lw_m7 28 rfl) rfl
theorem q1564 : (Jvm.Cond.fieldLink "RainWheelModel" (41 : Nat) "RainWheelModel" "strong" "[I") ∈ lw_all := lw_g (lw_at lw_m7 29 rfl) rfl
theorem q1565 : (Jvm.Cond.fieldLink "RainWheelModel" (44 : Nat) "RainWheelModel" "deed" "[I") ∈ lw_all := lw_g (lw_at lw_m7 30 rfl) rfl
theorem q1566 : (Jvm.Cond.fieldLink "RainWheelModel" (47 : Nat) "RainWheelModel" "bearing" "[I") ∈ lw_all := lw_g (lw_at lw_m7 31 rfl) rfl
theorem q1567 : (Jvm.Cond.fieldLink "RainWheelModel" (50 : Nat) "RainWheelModel" "board" "[I") ∈ lw_all := lw_g (lw_at lw_m7 32 rfl) rfl
theorem q1568 : (Jvm.Cond.fieldLink "RainWheelModel" (53 : Nat) "RainWheelModel" "nut" "[I") ∈ lw_all := lw_g (lw_at lw_m7 33 rfl) rfl
theorem q1569 : (Jvm.Cond.fieldLink "RainWheelModel" (56 : Nat) "RainWheelModel" "cause" "[I") ∈ lw_all := lw_g (lw_at lw_m7 34 rfl) rfl
theorem q1570 : (Jvm.Cond.fieldLink "RainWheelModel" (59 : Nat) "RainWheelModel" "newRain" "[Z") ∈ lw_all := lw_g (lw_at lw_m7 35 rfl) rfl
theorem q1571 : (Jvm.Cond.fieldLink "RainWheelModel" (63 : Nat) "RainWheelModel" "rain" "[Z") ∈ lw_all := lw_g (lw_at lw_m7 36 rfl) rfl
theorem q1572 : (Jvm.Cond.fieldLink "RainWheelModel" (66 : Nat) "RainWheelModel" "newTold" "[I") ∈ lw_all := lw_g (lw_at lw_m7 37 rfl) rfl
theorem q1573 : (Jvm.Cond.fieldLink "RainWheelModel" (69 : Nat) "RainWheelModel" "toldNow" "[I") ∈ lw_all := lw_g (lw_at lw_m7 38 rfl) rfl
theorem q1574 : (Jvm.Cond.fieldLink "RainWheelModel" (196 : Nat) "RainWheelModel" "newPeople" "I") ∈ lw_all := lw_g (lw_at lw_m7 39 rfl) rfl
theorem q1575 : (Jvm.Cond.fieldLink "RainWheelModel" (199 : Nat) "RainWheelModel" "newDeeds" "I") ∈ lw_all := lw_g (lw_at lw_m7 40 rfl) rfl
theorem q1576 : (Jvm.Cond.fieldLink "RainWheelModel" (202 : Nat) "RainWheelModel" "newRains" "I") ∈ lw_all := lw_g (lw_at lw_m7 41 rfl) rfl
theorem q1577 : (Jvm.Cond.fieldLink "RainWheelModel" (205 : Nat) "RainWheelModel" "newBoards" "I") ∈ lw_all := lw_g (lw_at lw_m7 42 rfl) rfl
theorem q1578 : (Jvm.Cond.fieldLink "RainWheelModel" (208 : Nat) "RainWheelModel" "newNuts" "I") ∈ lw_all := lw_g (lw_at lw_m7 43 rfl) rfl
theorem q1579 : (Jvm.Cond.fieldLink "RainWheelModel" (211 : Nat) "RainWheelModel" "newCauses" "I") ∈ lw_all := lw_g (lw_at lw_m7 44 rfl) rfl
theorem q1580 : (Jvm.Cond.fieldLink "RainWheelModel" (214 : Nat) "RainWheelModel" "people" "I") ∈ lw_all := lw_g (lw_at lw_m7 45 rfl) rfl
theorem q1581 : (Jvm.Cond.fieldLink "RainWheelModel" (217 : Nat) "RainWheelModel" "deeds" "I") ∈ lw_all := lw_g (lw_at lw_m7 46 rfl) rfl
theorem q1582 : (Jvm.Cond.fieldLink "RainWheelModel" (220 : Nat) "RainWheelModel" "boards" "I") ∈ lw_all := lw_g (lw_at lw_m7 47 rfl) rfl
theorem q1583 : (Jvm.Cond.fieldLink "RainWheelModel" (223 : Nat) "RainWheelModel" "nuts" "I") ∈ lw_all := lw_g (lw_at lw_m7 48 rfl) rfl
theorem q1584 : (Jvm.Cond.fieldLink "RainWheelModel" (226 : Nat) "RainWheelModel" "causes" "I") ∈ lw_all := lw_g (lw_at lw_m7 49 rfl) rfl
theorem q1585 : (Jvm.Cond.fieldLink "RainWheelModel" (72 : Nat) "RainWheelModel" "newCode" "[I") ∈ lw_all := lw_g (lw_at lw_m7 50 rfl) rfl
theorem q1586 : (Jvm.Cond.fieldLink "RainWheelModel" (75 : Nat) "RainWheelModel" "newOf" "[I") ∈ lw_all := lw_g (lw_at lw_m7 51 rfl) rfl
theorem q1587 : (Jvm.Cond.fieldLink "RainWheelModel" (78 : Nat) "RainWheelModel" "code" "[I") ∈ lw_all := lw_g (lw_at lw_m7 52 rfl) rfl
theorem q1588 : (Jvm.Cond.fieldLink "RainWheelModel" (81 : Nat) "RainWheelModel" "ofCode" "[I") ∈ lw_all := lw_g (lw_at lw_m7 53 rfl) rfl
theorem q1589 : (Jvm.Cond.fieldLink "RainWheelModel" (84 : Nat) "RainWheelModel" "stack" "[I") ∈ lw_all := lw_g (lw_at lw_m7 54 rfl) rfl
theorem q1590 : (Jvm.Cond.fieldLink "RainWheelModel" (313 : Nat) "RainWheelModel" "newCodes" "I") ∈ lw_all := lw_g (lw_at lw_m7 55 rfl) rfl
theorem q1591 : (Jvm.Cond.fieldLink "RainWheelModel" (233 : Nat) "RainWheelModel" "codes" "I") ∈ lw_all := lw_g (lw_at lw_m7 56 rfl) rfl
theorem q1592 : (Jvm.Cond.fieldLink "RainWheelModel" (87 : Nat) "RainWheelModel" "facts" "[I") ∈ lw_all := lw_g (lw_at lw_m7 57 rfl) rfl
theorem q1593 : (Jvm.Cond.fieldLink "RainWheelModel" (90 : Nat) "RainWheelModel" "newPlan" "[I") ∈ lw_all := lw_g (lw_at lw_m7 58 rfl) rfl
theorem q1594 : (Jvm.Cond.fieldLink "RainWheelModel" (93 : Nat) "RainWheelModel" "plan" "[I") ∈ lw_all := lw_g (lw_at lw_m7 59 rfl) rfl
theorem q1595 : (Jvm.Cond.fieldLink "RainWheelModel" (96 : Nat) "RainWheelModel" "newSeen" "[I") ∈ lw_all := lw_g (lw_at lw_m7 60 rfl) rfl
theorem q1596 : (Jvm.Cond.fieldLink "RainWheelModel" (99 : Nat) "RainWheelModel" "seen" "[I") ∈ lw_all := lw_g (lw_at lw_m7 61 rfl) rfl
theorem q1597 : (Jvm.Cond.fieldLink "RainWheelModel" (236 : Nat) "RainWheelModel" "plans" "I") ∈ lw_all := lw_g (lw_at lw_m7 62 rfl) rfl
theorem q1598 : (Jvm.Cond.fieldLink "RainWheelModel" (239 : Nat) "RainWheelModel" "books" "I") ∈ lw_all := lw_g (lw_at lw_m7 63 rfl) rfl
theorem q1599 : (Jvm.Cond.fieldLink "RainWheelModel" (102 : Nat) "RainWheelModel" "begins" "[I") ∈ lw_all := lw_g (lw_at lw_m7 64 rfl) rfl
theorem q1600 : (Jvm.Cond.fieldLink "RainWheelModel" (105 : Nat) "RainWheelModel" "ends" "[I") ∈ lw_all := lw_g (lw_at lw_m7 65 rfl) rfl
theorem q1601 : (Jvm.Cond.fieldLink "RainWheelModel" (108 : Nat) "RainWheelModel" "free" "[I") ∈ lw_all := lw_g (lw_at lw_m7 66 rfl) rfl
theorem q1602 : (Jvm.Cond.fieldLink "RainWheelModel" (111 : Nat) "RainWheelModel" "endOf" "[I") ∈ lw_all := lw_g (lw_at lw_m7 67 rfl) rfl
theorem q1603 : (Jvm.Cond.fieldLink "RainWheelModel" (114 : Nat) "RainWheelModel" "wetOf" "[I") ∈ lw_all := lw_g (lw_at lw_m7 68 rfl) rfl
theorem q1604 : (Jvm.Cond.fieldLink "RainWheelModel" (117 : Nat) "RainWheelModel" "busy" "[I") ∈ lw_all := lw_g (lw_at lw_m7 69 rfl) rfl
theorem q1605 : (Jvm.Cond.fieldLink "RainWheelModel" (120 : Nat) "RainWheelModel" "more" "[I") ∈ lw_all := lw_g (lw_at lw_m7 70 rfl) rfl
theorem q1606 : (Jvm.Cond.fieldLink "RainWheelModel" (387 : Nat) "RainWheelModel" "again" "I") ∈ lw_all := lw_g (lw_at lw_m7 71 rfl) rfl
theorem q1607 : (Jvm.Cond.fieldLink "RainWheelModel" (123 : Nat) "RainWheelModel" "chainOf" "[I") ∈ lw_all := lw_g (lw_at lw_m7 72 rfl) rfl
theorem q1608 : (Jvm.Cond.fieldLink "RainWheelModel" (126 : Nat) "RainWheelModel" "freeAt" "[I") ∈ lw_all := lw_g (lw_at lw_m7 73 rfl) rfl
theorem q1609 : (Jvm.Cond.fieldLink "RainWheelModel" (129 : Nat) "RainWheelModel" "bestPlan" "[I") ∈ lw_all := lw_g (lw_at lw_m7 74 rfl) rfl
theorem q1610 : (Jvm.Cond.fieldLink "RainWheelModel" (132 : Nat) "RainWheelModel" "tryPlan" "[I") ∈ lw_all := lw_g (lw_at lw_m7 75 rfl) rfl
theorem q1611 : (Jvm.Cond.fieldLink "RainWheelModel" (415 : Nat) "RainWheelModel" "bestSpan" "I") ∈ lw_all := lw_g (lw_at lw_m7 76 rfl) rfl
theorem q1612 : (Jvm.Cond.fieldLink "RainWheelModel" (418 : Nat) "RainWheelModel" "bestWet" "I") ∈ lw_all := lw_g (lw_at lw_m7 77 rfl) rfl
theorem q1613 : (Jvm.Cond.fieldLink "RainWheelModel" (465 : Nat) "RainWheelModel" "crossLeast" "I") ∈ lw_all := lw_g (lw_at lw_m7 78 rfl) rfl
theorem q1614 : (Jvm.Cond.fieldLink "RainWheelModel" (468 : Nat) "RainWheelModel" "crossRow" "I") ∈ lw_all := lw_g (lw_at lw_m7 79 rfl) rfl
theorem q1615 : (Jvm.Cond.fieldLink "RainWheelModel" (135 : Nat) "RainWheelModel" "driving" "[I") ∈ lw_all := lw_g (lw_at lw_m7 80 rfl) rfl
theorem q1616 : (Jvm.Cond.fieldLink "RainWheelModel" (495 : Nat) "RainWheelModel" "seedNow" "I") ∈ lw_all := lw_g (lw_at lw_m7 81 rfl) rfl
theorem q1617 : (Jvm.Cond.fieldLink "RainWheelModel" (138 : Nat) "RainWheelModel" "past" "[I") ∈ lw_all := lw_g (lw_at lw_m7 82 rfl) rfl
theorem q1618 : (Jvm.Cond.fieldLink "RainWheelModel" (242 : Nat) "RainWheelModel" "changes" "I") ∈ lw_all := lw_g (lw_at lw_m7 83 rfl) rfl
theorem q1619 : (Jvm.Cond.fieldLink "RainWheelModel" (141 : Nat) "RainWheelModel" "image" "[I") ∈ lw_all := lw_g (lw_at lw_m7 84 rfl) rfl
theorem q1620 : (Jvm.Cond.fieldLink "RainWheelModel" (245 : Nat) "RainWheelModel" "images" "I") ∈ lw_all := lw_g (lw_at lw_m7 85 rfl) rfl
theorem q1621 : (Jvm.Cond.lays "RainWheelModel" "RainWheelModel" "thrown" "I") ∈ lw_all := lw_g (lw_at lw_m7 86 rfl) rfl
theorem q1622 : (Jvm.Cond.soleField "RainWheelModel" "thrown") ∈ lw_all := lw_g (lw_at lw_m7 87 rfl) rfl
theorem q1623 : (Jvm.Cond.laysFinal "RainWheelModel" "RainWheelModel" "refused" "[I") ∈ lw_all := lw_g (lw_at lw_m7 88 rfl) rfl
theorem q1624 : (Jvm.Cond.soleField "RainWheelModel" "refused") ∈ lw_all := lw_g (lw_at lw_m7 89 rfl) rfl
theorem q1625 : (Jvm.Cond.lays "RainWheelModel" "RainWheelModel" "taped" "I") ∈ lw_all := lw_g (lw_at lw_m7 90 rfl) rfl
theorem q1626 : (Jvm.Cond.soleField "RainWheelModel" "taped") ∈ lw_all := lw_g (lw_at lw_m7 91 rfl) rfl
theorem q1627 : (Jvm.Cond.lays "RainWheelModel" "RainWheelModel" "size" "I") ∈ lw_all := lw_g (lw_at lw_m7 92 rfl) rfl
theorem q1628 : (Jvm.Cond.soleField "RainWheelModel" "size") ∈ lw_all := lw_g (lw_at lw_m7 93 rfl) rfl
theorem q1629 : (Jvm.Cond.lays "RainWheelModel" "RainWheelModel" "at" "I") ∈ lw_all := lw_g (lw_at lw_m7 94 rfl) rfl
theorem q1630 : (Jvm.Cond.soleField "RainWheelModel" "at") ∈ lw_all := lw_g (lw_at lw_m7 95 rfl) rfl
theorem q1631 : (Jvm.Cond.lays "RainWheelModel" "RainWheelModel" "bad" "I") ∈ lw_all := lw_g (lw_at lw_m7 96 rfl) rfl
theorem q1632 : (Jvm.Cond.soleField "RainWheelModel" "bad") ∈ lw_all := lw_g (lw_at lw_m7 97 rfl) rfl
theorem q1633 : (Jvm.Cond.lays "RainWheelModel" "RainWheelModel" "badKind" "I") ∈ lw_all := lw_g (lw_at lw_m7 98 rfl) rfl
theorem q1634 : (Jvm.Cond.soleField "RainWheelModel" "badKind") ∈ lw_all := lw_g (lw_at lw_m7 99 rfl) rfl
theorem q1635 : (Jvm.Cond.lays "RainWheelModel" "RainWheelModel" "opens" "I") ∈ lw_all := lw_g (lw_at lw_m7 100 rfl) rfl
theorem q1636 : (Jvm.Cond.soleField "RainWheelModel" "opens") ∈ lw_all := lw_g (lw_at lw_m7 101 rfl) rfl
theorem q1637 : (Jvm.Cond.lays "RainWheelModel" "RainWheelModel" "faultAt" "I") ∈ lw_all := lw_g (lw_at lw_m7 102 rfl) rfl
theorem q1638 : (Jvm.Cond.soleField "RainWheelModel" "faultAt") ∈ lw_all := lw_g (lw_at lw_m7 103 rfl) rfl
theorem q1639 : (Jvm.Cond.laysFinal "RainWheelModel" "RainWheelModel" "tape" "[I") ∈ lw_all := lw_g (lw_at lw_m7 104 rfl) rfl
theorem q1640 : (Jvm.Cond.soleField "RainWheelModel" "tape") ∈ lw_all := lw_g (lw_at lw_m7 105 rfl) rfl
theorem q1641 : (Jvm.Cond.laysFinal "RainWheelModel" "RainWheelModel" "newStrong" "[I") ∈ lw_all := lw_g (lw_at lw_m7 106 rfl) rfl
theorem q1642 : (Jvm.Cond.soleField "RainWheelModel" "newStrong") ∈ lw_all := lw_g (lw_at lw_m7 107 rfl) rfl
theorem q1643 : (Jvm.Cond.laysFinal "RainWheelModel" "RainWheelModel" "newDeed" "[I") ∈ lw_all := lw_g (lw_at lw_m7 108 rfl) rfl
theorem q1644 : (Jvm.Cond.soleField "RainWheelModel" "newDeed") ∈ lw_all := lw_g (lw_at lw_m7 109 rfl) rfl
theorem q1645 : (Jvm.Cond.laysFinal "RainWheelModel" "RainWheelModel" "newBears" "[I") ∈ lw_all := lw_g (lw_at lw_m7 110 rfl) rfl
theorem q1646 : (Jvm.Cond.soleField "RainWheelModel" "newBears") ∈ lw_all := lw_g (lw_at lw_m7 111 rfl) rfl
theorem q1647 : (Jvm.Cond.laysFinal "RainWheelModel" "RainWheelModel" "newBoard" "[I") ∈ lw_all := lw_g (lw_at lw_m7 112 rfl) rfl
theorem q1648 : (Jvm.Cond.soleField "RainWheelModel" "newBoard") ∈ lw_all := lw_g (lw_at lw_m7 113 rfl) rfl
theorem q1649 : (Jvm.Cond.laysFinal "RainWheelModel" "RainWheelModel" "newNut" "[I") ∈ lw_all := lw_g (lw_at lw_m7 114 rfl) rfl
theorem q1650 : (Jvm.Cond.soleField "RainWheelModel" "newNut") ∈ lw_all := lw_g (lw_at lw_m7 115 rfl) rfl
theorem q1651 : (Jvm.Cond.laysFinal "RainWheelModel" "RainWheelModel" "newCause" "[I") ∈ lw_all := lw_g (lw_at lw_m7 116 rfl) rfl
theorem q1652 : (Jvm.Cond.soleField "RainWheelModel" "newCause") ∈ lw_all := lw_g (lw_at lw_m7 117 rfl) rfl
theorem q1653 : (Jvm.Cond.laysFinal "RainWheelModel" "RainWheelModel" "strong" "[I") ∈ lw_all := lw_g (lw_at lw_m7 118 rfl) rfl
theorem q1654 : (Jvm.Cond.soleField "RainWheelModel" "strong") ∈ lw_all := lw_g (lw_at lw_m7 119 rfl) rfl
theorem q1655 : (Jvm.Cond.laysFinal "RainWheelModel" "RainWheelModel" "deed" "[I") ∈ lw_all := lw_g (lw_at lw_m7 120 rfl) rfl
theorem q1656 : (Jvm.Cond.soleField "RainWheelModel" "deed") ∈ lw_all := lw_g (lw_at lw_m7 121 rfl) rfl
theorem q1657 : (Jvm.Cond.laysFinal "RainWheelModel" "RainWheelModel" "bearing" "[I") ∈ lw_all := lw_g (lw_at lw_m7 122 rfl) rfl
theorem q1658 : (Jvm.Cond.soleField "RainWheelModel" "bearing") ∈ lw_all := lw_g (lw_at lw_m7 123 rfl) rfl
theorem q1659 : (Jvm.Cond.laysFinal "RainWheelModel" "RainWheelModel" "board" "[I") ∈ lw_all := lw_g (lw_at lw_m7 124 rfl) rfl
theorem q1660 : (Jvm.Cond.soleField "RainWheelModel" "board") ∈ lw_all := lw_g (lw_at lw_m7 125 rfl) rfl
theorem q1661 : (Jvm.Cond.laysFinal "RainWheelModel" "RainWheelModel" "nut" "[I") ∈ lw_all := lw_g (lw_at lw_m7 126 rfl) rfl
theorem q1662 : (Jvm.Cond.soleField "RainWheelModel" "nut") ∈ lw_all := lw_g (lw_at lw_m7 127 rfl) rfl
theorem q1663 : (Jvm.Cond.laysFinal "RainWheelModel" "RainWheelModel" "cause" "[I") ∈ lw_all := lw_g (lw_at lw_m7 128 rfl) rfl
theorem q1664 : (Jvm.Cond.soleField "RainWheelModel" "cause") ∈ lw_all := lw_g (lw_at lw_m7 129 rfl) rfl
theorem q1665 : (Jvm.Cond.laysFinal "RainWheelModel" "RainWheelModel" "newRain" "[Z") ∈ lw_all := lw_g (lw_at lw_m7 130 rfl) rfl
theorem q1666 : (Jvm.Cond.soleField "RainWheelModel" "newRain") ∈ lw_all := lw_g (lw_at lw_m7 131 rfl) rfl
theorem q1667 : (Jvm.Cond.laysFinal "RainWheelModel" "RainWheelModel" "rain" "[Z") ∈ lw_all := lw_g (lw_at lw_m7 132 rfl) rfl
theorem q1668 : (Jvm.Cond.soleField "RainWheelModel" "rain") ∈ lw_all := lw_g (lw_at lw_m7 133 rfl) rfl
theorem q1669 : (Jvm.Cond.laysFinal "RainWheelModel" "RainWheelModel" "newTold" "[I") ∈ lw_all := lw_g (lw_at lw_m7 134 rfl) rfl
theorem q1670 : (Jvm.Cond.soleField "RainWheelModel" "newTold") ∈ lw_all := lw_g (lw_at lw_m7 135 rfl) rfl
theorem q1671 : (Jvm.Cond.laysFinal "RainWheelModel" "RainWheelModel" "toldNow" "[I") ∈ lw_all := lw_g (lw_at lw_m7 136 rfl) rfl
theorem q1672 : (Jvm.Cond.soleField "RainWheelModel" "toldNow") ∈ lw_all := lw_g (lw_at lw_m7 137 rfl) rfl
theorem q1673 : (Jvm.Cond.lays "RainWheelModel" "RainWheelModel" "newPeople" "I") ∈ lw_all := lw_g (lw_at lw_m7 138 rfl) rfl
theorem q1674 : (Jvm.Cond.soleField "RainWheelModel" "newPeople") ∈ lw_all := lw_g (lw_at lw_m7 139 rfl) rfl
theorem q1675 : (Jvm.Cond.lays "RainWheelModel" "RainWheelModel" "newDeeds" "I") ∈ lw_all := lw_g (lw_at lw_m7 140 rfl) rfl
theorem q1676 : (Jvm.Cond.soleField "RainWheelModel" "newDeeds") ∈ lw_all := lw_g (lw_at lw_m7 141 rfl) rfl
theorem q1677 : (Jvm.Cond.lays "RainWheelModel" "RainWheelModel" "newRains" "I") ∈ lw_all := lw_g (lw_at lw_m7 142 rfl) rfl
theorem q1678 : (Jvm.Cond.soleField "RainWheelModel" "newRains") ∈ lw_all := lw_g (lw_at lw_m7 143 rfl) rfl
theorem q1679 : (Jvm.Cond.lays "RainWheelModel" "RainWheelModel" "newBoards" "I") ∈ lw_all := lw_g (lw_at lw_m7 144 rfl) rfl
theorem q1680 : (Jvm.Cond.soleField "RainWheelModel" "newBoards") ∈ lw_all := lw_g (lw_at lw_m7 145 rfl) rfl
theorem q1681 : (Jvm.Cond.lays "RainWheelModel" "RainWheelModel" "newNuts" "I") ∈ lw_all := lw_g (lw_at lw_m7 146 rfl) rfl
theorem q1682 : (Jvm.Cond.soleField "RainWheelModel" "newNuts") ∈ lw_all := lw_g (lw_at lw_m7 147 rfl) rfl
theorem q1683 : (Jvm.Cond.lays "RainWheelModel" "RainWheelModel" "newCauses" "I") ∈ lw_all := lw_g (lw_at lw_m7 148 rfl) rfl
theorem q1684 : (Jvm.Cond.soleField "RainWheelModel" "newCauses") ∈ lw_all := lw_g (lw_at lw_m7 149 rfl) rfl
theorem q1685 : (Jvm.Cond.lays "RainWheelModel" "RainWheelModel" "people" "I") ∈ lw_all := lw_g (lw_at lw_m7 150 rfl) rfl
theorem q1686 : (Jvm.Cond.soleField "RainWheelModel" "people") ∈ lw_all := lw_g (lw_at lw_m7 151 rfl) rfl
theorem q1687 : (Jvm.Cond.lays "RainWheelModel" "RainWheelModel" "deeds" "I") ∈ lw_all := lw_g (lw_at lw_m7 152 rfl) rfl
theorem q1688 : (Jvm.Cond.soleField "RainWheelModel" "deeds") ∈ lw_all := lw_g (lw_at lw_m7 153 rfl) rfl
theorem q1689 : (Jvm.Cond.lays "RainWheelModel" "RainWheelModel" "boards" "I") ∈ lw_all := lw_g (lw_at lw_m7 154 rfl) rfl
theorem q1690 : (Jvm.Cond.soleField "RainWheelModel" "boards") ∈ lw_all := lw_g (lw_at lw_m7 155 rfl) rfl
theorem q1691 : (Jvm.Cond.lays "RainWheelModel" "RainWheelModel" "nuts" "I") ∈ lw_all := lw_g (lw_at lw_m7 156 rfl) rfl
theorem q1692 : (Jvm.Cond.soleField "RainWheelModel" "nuts") ∈ lw_all := lw_g (lw_at lw_m7 157 rfl) rfl
theorem q1693 : (Jvm.Cond.lays "RainWheelModel" "RainWheelModel" "causes" "I") ∈ lw_all := lw_g (lw_at lw_m7 158 rfl) rfl
theorem q1694 : (Jvm.Cond.soleField "RainWheelModel" "causes") ∈ lw_all := lw_g (lw_at lw_m7 159 rfl) rfl
theorem q1695 : (Jvm.Cond.laysFinal "RainWheelModel" "RainWheelModel" "newCode" "[I") ∈ lw_all := lw_g (lw_at lw_m7 160 rfl) rfl
theorem q1696 : (Jvm.Cond.soleField "RainWheelModel" "newCode") ∈ lw_all := lw_g (lw_at lw_m7 161 rfl) rfl
theorem q1697 : (Jvm.Cond.laysFinal "RainWheelModel" "RainWheelModel" "newOf" "[I") ∈ lw_all := lw_g (lw_at lw_m7 162 rfl) rfl
theorem q1698 : (Jvm.Cond.soleField "RainWheelModel" "newOf") ∈ lw_all := lw_g (lw_at lw_m7 163 rfl) rfl
theorem q1699 : (Jvm.Cond.laysFinal "RainWheelModel" "RainWheelModel" "code" "[I") ∈ lw_all := lw_g (lw_at lw_m7 164 rfl) rfl
theorem q1700 : (Jvm.Cond.soleField "RainWheelModel" "code") ∈ lw_all := lw_g (lw_at lw_m7 165 rfl) rfl
theorem q1701 : (Jvm.Cond.laysFinal "RainWheelModel" "RainWheelModel" "ofCode" "[I") ∈ lw_all := lw_g (lw_at lw_m7 166 rfl) rfl
theorem q1702 : (Jvm.Cond.soleField "RainWheelModel" "ofCode") ∈ lw_all := lw_g (lw_at lw_m7 167 rfl) rfl
theorem q1703 : (Jvm.Cond.laysFinal "RainWheelModel" "RainWheelModel" "stack" "[I") ∈ lw_all := lw_g (lw_at lw_m7 168 rfl) rfl
theorem q1704 : (Jvm.Cond.soleField "RainWheelModel" "stack") ∈ lw_all := lw_g (lw_at lw_m7 169 rfl) rfl
theorem q1705 : (Jvm.Cond.lays "RainWheelModel" "RainWheelModel" "newCodes" "I") ∈ lw_all := lw_g (lw_at lw_m7 170 rfl) rfl
theorem q1706 : (Jvm.Cond.soleField "RainWheelModel" "newCodes") ∈ lw_all := lw_g (lw_at lw_m7 171 rfl) rfl
theorem q1707 : (Jvm.Cond.lays "RainWheelModel" "RainWheelModel" "codes" "I") ∈ lw_all := lw_g (lw_at lw_m7 172 rfl) rfl
theorem q1708 : (Jvm.Cond.soleField "RainWheelModel" "codes") ∈ lw_all := lw_g (lw_at lw_m7 173 rfl) rfl
theorem q1709 : (Jvm.Cond.laysFinal "RainWheelModel" "RainWheelModel" "facts" "[I") ∈ lw_all := lw_g (lw_at lw_m7 174 rfl) rfl
theorem q1710 : (Jvm.Cond.soleField "RainWheelModel" "facts") ∈ lw_all := lw_g (lw_at lw_m7 175 rfl) rfl
theorem q1711 : (Jvm.Cond.laysFinal "RainWheelModel" "RainWheelModel" "newPlan" "[I") ∈ lw_all := lw_g (lw_at lw_m7 176 rfl) rfl
theorem q1712 : (Jvm.Cond.soleField "RainWheelModel" "newPlan") ∈ lw_all := lw_g (lw_at lw_m7 177 rfl) rfl
theorem q1713 : (Jvm.Cond.laysFinal "RainWheelModel" "RainWheelModel" "plan" "[I") ∈ lw_all := lw_g (lw_at lw_m7 178 rfl) rfl
theorem q1714 : (Jvm.Cond.soleField "RainWheelModel" "plan") ∈ lw_all := lw_g (lw_at lw_m7 179 rfl) rfl
theorem q1715 : (Jvm.Cond.laysFinal "RainWheelModel" "RainWheelModel" "newSeen" "[I") ∈ lw_all := lw_g (lw_at lw_m7 180 rfl) rfl
theorem q1716 : (Jvm.Cond.soleField "RainWheelModel" "newSeen") ∈ lw_all := lw_g (lw_at lw_m7 181 rfl) rfl
theorem q1717 : (Jvm.Cond.laysFinal "RainWheelModel" "RainWheelModel" "seen" "[I") ∈ lw_all := lw_g (lw_at lw_m7 182 rfl) rfl
theorem q1718 : (Jvm.Cond.soleField "RainWheelModel" "seen") ∈ lw_all := lw_g (lw_at lw_m7 183 rfl) rfl
theorem q1719 : (Jvm.Cond.lays "RainWheelModel" "RainWheelModel" "plans" "I") ∈ lw_all := lw_g (lw_at lw_m7 184 rfl) rfl
theorem q1720 : (Jvm.Cond.soleField "RainWheelModel" "plans") ∈ lw_all := lw_g (lw_at lw_m7 185 rfl) rfl
theorem q1721 : (Jvm.Cond.lays "RainWheelModel" "RainWheelModel" "books" "I") ∈ lw_all := lw_g (lw_at lw_m7 186 rfl) rfl
theorem q1722 : (Jvm.Cond.soleField "RainWheelModel" "books") ∈ lw_all := lw_g (lw_at lw_m7 187 rfl) rfl
theorem q1723 : (Jvm.Cond.laysFinal "RainWheelModel" "RainWheelModel" "begins" "[I") ∈ lw_all := lw_g (lw_at lw_m7 188 rfl) rfl
theorem q1724 : (Jvm.Cond.soleField "RainWheelModel" "begins") ∈ lw_all := lw_g (lw_at lw_m7 189 rfl) rfl
theorem q1725 : (Jvm.Cond.laysFinal "RainWheelModel" "RainWheelModel" "ends" "[I") ∈ lw_all := lw_g (lw_at lw_m7 190 rfl) rfl
theorem q1726 : (Jvm.Cond.soleField "RainWheelModel" "ends") ∈ lw_all := lw_g (lw_at lw_m7 191 rfl) rfl
theorem q1727 : (Jvm.Cond.laysFinal "RainWheelModel" "RainWheelModel" "free" "[I") ∈ lw_all := lw_g (lw_at lw_m7 192 rfl) rfl
theorem q1728 : (Jvm.Cond.soleField "RainWheelModel" "free") ∈ lw_all := lw_g (lw_at lw_m7 193 rfl) rfl
theorem q1729 : (Jvm.Cond.laysFinal "RainWheelModel" "RainWheelModel" "endOf" "[I") ∈ lw_all := lw_g (lw_at lw_m7 194 rfl) rfl
theorem q1730 : (Jvm.Cond.soleField "RainWheelModel" "endOf") ∈ lw_all := lw_g (lw_at lw_m7 195 rfl) rfl
theorem q1731 : (Jvm.Cond.laysFinal "RainWheelModel" "RainWheelModel" "wetOf" "[I") ∈ lw_all := lw_g (lw_at lw_m7 196 rfl) rfl
theorem q1732 : (Jvm.Cond.soleField "RainWheelModel" "wetOf") ∈ lw_all := lw_g (lw_at lw_m7 197 rfl) rfl
theorem q1733 : (Jvm.Cond.laysFinal "RainWheelModel" "RainWheelModel" "busy" "[I") ∈ lw_all := lw_g (lw_at lw_m7 198 rfl) rfl
theorem q1734 : (Jvm.Cond.soleField "RainWheelModel" "busy") ∈ lw_all := lw_g (lw_at lw_m7 199 rfl) rfl
theorem q1735 : (Jvm.Cond.laysFinal "RainWheelModel" "RainWheelModel" "more" "[I") ∈ lw_all := lw_g (lw_at lw_m7 200 rfl) rfl
theorem q1736 : (Jvm.Cond.soleField "RainWheelModel" "more") ∈ lw_all := lw_g (lw_at lw_m7 201 rfl) rfl
theorem q1737 : (Jvm.Cond.lays "RainWheelModel" "RainWheelModel" "again" "I") ∈ lw_all := lw_g (lw_at lw_m7 202 rfl) rfl
theorem q1738 : (Jvm.Cond.soleField "RainWheelModel" "again") ∈ lw_all := lw_g (lw_at lw_m7 203 rfl) rfl
theorem q1739 : (Jvm.Cond.laysFinal "RainWheelModel" "RainWheelModel" "chainOf" "[I") ∈ lw_all := lw_g (lw_at lw_m7 204 rfl) rfl
theorem q1740 : (Jvm.Cond.soleField "RainWheelModel" "chainOf") ∈ lw_all := lw_g (lw_at lw_m7 205 rfl) rfl
theorem q1741 : (Jvm.Cond.laysFinal "RainWheelModel" "RainWheelModel" "freeAt" "[I") ∈ lw_all := lw_g (lw_at lw_m7 206 rfl) rfl
theorem q1742 : (Jvm.Cond.soleField "RainWheelModel" "freeAt") ∈ lw_all := lw_g (lw_at lw_m7 207 rfl) rfl
theorem q1743 : (Jvm.Cond.laysFinal "RainWheelModel" "RainWheelModel" "bestPlan" "[I") ∈ lw_all := lw_g (lw_at lw_m7 208 rfl) rfl
theorem q1744 : (Jvm.Cond.soleField "RainWheelModel" "bestPlan") ∈ lw_all := lw_g (lw_at lw_m7 209 rfl) rfl
theorem q1745 : (Jvm.Cond.laysFinal "RainWheelModel" "RainWheelModel" "tryPlan" "[I") ∈ lw_all := lw_g (lw_at lw_m7 210 rfl) rfl
theorem q1746 : (Jvm.Cond.soleField "RainWheelModel" "tryPlan") ∈ lw_all := lw_g (lw_at lw_m7 211 rfl) rfl
theorem q1747 : (Jvm.Cond.lays "RainWheelModel" "RainWheelModel" "bestSpan" "I") ∈ lw_all := lw_g (lw_at lw_m7 212 rfl) rfl
theorem q1748 : (Jvm.Cond.soleField "RainWheelModel" "bestSpan") ∈ lw_all := lw_g (lw_at lw_m7 213 rfl) rfl
theorem q1749 : (Jvm.Cond.lays "RainWheelModel" "RainWheelModel" "bestWet" "I") ∈ lw_all := lw_g (lw_at lw_m7 214 rfl) rfl
theorem q1750 : (Jvm.Cond.soleField "RainWheelModel" "bestWet") ∈ lw_all := lw_g (lw_at lw_m7 215 rfl) rfl
theorem q1751 : (Jvm.Cond.lays "RainWheelModel" "RainWheelModel" "crossLeast" "I") ∈ lw_all := lw_g (lw_at lw_m7 216 rfl) rfl
theorem q1752 : (Jvm.Cond.soleField "RainWheelModel" "crossLeast") ∈ lw_all := lw_g (lw_at lw_m7 217 rfl) rfl
theorem q1753 : (Jvm.Cond.lays "RainWheelModel" "RainWheelModel" "crossRow" "I") ∈ lw_all := lw_g (lw_at lw_m7 218 rfl) rfl
theorem q1754 : (Jvm.Cond.soleField "RainWheelModel" "crossRow") ∈ lw_all := lw_g (lw_at lw_m7 219 rfl) rfl
theorem q1755 : (Jvm.Cond.laysFinal "RainWheelModel" "RainWheelModel" "driving" "[I") ∈ lw_all := lw_g (lw_at lw_m7 220 rfl) rfl
theorem q1756 : (Jvm.Cond.soleField "RainWheelModel" "driving") ∈ lw_all := lw_g (lw_at lw_m7 221 rfl) rfl
theorem q1757 : (Jvm.Cond.lays "RainWheelModel" "RainWheelModel" "seedNow" "I") ∈ lw_all := lw_g (lw_at lw_m7 222 rfl) rfl
theorem q1758 : (Jvm.Cond.soleField "RainWheelModel" "seedNow") ∈ lw_all := lw_g (lw_at lw_m7 223 rfl) rfl
theorem q1759 : (Jvm.Cond.laysFinal "RainWheelModel" "RainWheelModel" "past" "[I") ∈ lw_all := lw_g (lw_at lw_m7 224 rfl) rfl
theorem q1760 : (Jvm.Cond.soleField "RainWheelModel" "past") ∈ lw_all := lw_g (lw_at lw_m7 225 rfl) rfl
theorem q1761 : (Jvm.Cond.lays "RainWheelModel" "RainWheelModel" "changes" "I") ∈ lw_all := lw_g (lw_at lw_m7 226 rfl) rfl
theorem q1762 : (Jvm.Cond.soleField "RainWheelModel" "changes") ∈ lw_all := lw_g (lw_at lw_m7 227 rfl) rfl
theorem q1763 : (Jvm.Cond.laysFinal "RainWheelModel" "RainWheelModel" "image" "[I") ∈ lw_all := lw_g (lw_at lw_m7 228 rfl) rfl
theorem q1764 : (Jvm.Cond.soleField "RainWheelModel" "image") ∈ lw_all := lw_g (lw_at lw_m7 229 rfl) rfl
theorem q1765 : (Jvm.Cond.lays "RainWheelModel" "RainWheelModel" "images" "I") ∈ lw_all := lw_g (lw_at lw_m7 230 rfl) rfl
theorem q1766 : (Jvm.Cond.soleField "RainWheelModel" "images") ∈ lw_all := lw_g (lw_at lw_m7 231 rfl) rfl
theorem q1767 : (Jvm.Cond.superclass "RainWheelModel" "java/lang/Object") ∈ lw_all := lw_g (lw_at lw_m7 232 rfl) rfl
theorem q1770 : (Jvm.Cond.instanceMethod ({ cls := "RainWheelModel", name := "feed", desc := "(IIIII)I" } : Jvm.MethodName)) ∈ lw_all := lw_g (lw_at lw_m7 235 rfl) rfl
theorem q1771 : (Jvm.Cond.selects "RainWheelModel" ({ cls := "RainWheelModel", name := "feed", desc := "(IIIII)I" } : Jvm.MethodName) ({ cls := "RainWheelModel", name := "feed", desc := "(IIIII)I" } : Jvm.MethodName)) ∈ lw_all := lw_g (lw_at lw_m7 236 rfl) rfl
theorem q1772 : (Jvm.Cond.code ({ cls := "RainWheelModel", name := "feed", desc := "(IIIII)I" } : Jvm.MethodName) prog_19_method_5_code (8 : Nat) (Option.some Jvm.ClassFile.FieldType.int)) ∈ lw_all := lw_g (lw_at lw_m7 237 rfl) rfl
theorem q1774 : (Jvm.Cond.instanceMethod ({ cls := "RainWheelModel", name := "fault", desc := "()I" } : Jvm.MethodName)) ∈ lw_all := lw_g (lw_at lw_m7 239 rfl) rfl
theorem q1775 : (Jvm.Cond.selects "RainWheelModel" ({ cls := "RainWheelModel", name := "fault", desc := "()I" } : Jvm.MethodName) ({ cls := "RainWheelModel", name := "fault", desc := "()I" } : Jvm.MethodName)) ∈ lw_all := lw_g (lw_at lw_m8 0 rfl) rfl
theorem q1776 : (Jvm.Cond.code ({ cls := "RainWheelModel", name := "fault", desc := "()I" } : Jvm.MethodName) prog_19_method_19_code (1 : Nat) (Option.some Jvm.ClassFile.FieldType.int)) ∈ lw_all := lw_g (lw_at lw_m8 1 rfl) rfl
theorem q1778 : (Jvm.Cond.instanceMethod ({ cls := "RainWheelModel", name := "road", desc := "(I)I" } : Jvm.MethodName)) ∈ lw_all := lw_g (lw_at lw_m8 3 rfl) rfl
theorem q1779 : (Jvm.Cond.selects "RainWheelModel" ({ cls := "RainWheelModel", name := "road", desc := "(I)I" } : Jvm.MethodName) ({ cls := "RainWheelModel", name := "road", desc := "(I)I" } : Jvm.MethodName)) ∈ lw_all := lw_g (lw_at lw_m8 4 rfl) rfl
theorem q1780 : (Jvm.Cond.code ({ cls := "RainWheelModel", name := "road", desc := "(I)I" } : Jvm.MethodName) prog_19_method_28_code (4 : Nat) (Option.some Jvm.ClassFile.FieldType.int)) ∈ lw_all := lw_g (lw_at lw_m8 5 rfl) rfl
theorem q1781 : (Jvm.Cond.methodLink "RainWheelModel" (275 : Nat) ({ cls := "RainWheelModel", name := "may", desc := "(ZII)Z" } : Jvm.MethodName)) ∈ lw_all := lw_g (lw_at lw_m8 6 rfl) rfl
theorem q1782 : (Jvm.Cond.privateMethod ({ cls := "RainWheelModel", name := "may", desc := "(ZII)Z" } : Jvm.MethodName)) ∈ lw_tbl := lw_at lw_m8 7 rfl
theorem q1783 : (Jvm.Cond.instanceMethod ({ cls := "RainWheelModel", name := "may", desc := "(ZII)Z" } : Jvm.MethodName)) ∈ lw_all := lw_g (lw_at lw_m8 8 rfl) rfl
theorem q1784 : (Jvm.Cond.code ({ cls := "RainWheelModel", name := "may", desc := "(ZII)Z" } : Jvm.MethodName) prog_19_method_2_code (4 : Nat) (Option.some Jvm.ClassFile.FieldType.boolean)) ∈ lw_all := lw_g (lw_at lw_m8 9 rfl) rfl
theorem q1785 : (Jvm.Cond.methodLink "RainWheelModel" (279 : Nat) ({ cls := "RainWheelModel", name := "begins", desc := "(I)V" } : Jvm.MethodName)) ∈ lw_all := lw_g (lw_at lw_m8 10 rfl) rfl
theorem q1786 : (Jvm.Cond.privateMethod ({ cls := "RainWheelModel", name := "begins", desc := "(I)V" } : Jvm.MethodName)) ∈ lw_tbl := lw_at lw_m8 11 rfl
theorem q1787 : (Jvm.Cond.instanceMethod ({ cls := "RainWheelModel", name := "begins", desc := "(I)V" } : Jvm.MethodName)) ∈ lw_all := lw_g (lw_at lw_m8 12 rfl) rfl
theorem q1788 : (Jvm.Cond.code ({ cls := "RainWheelModel", name := "begins", desc := "(I)V" } : Jvm.MethodName) prog_19_method_17_code (2 : Nat) (Option.none : Option Jvm.ClassFile.FieldType)) ∈ lw_all := lw_g (lw_at lw_m8 13 rfl) rfl
theorem q1789 : (Jvm.Cond.methodLink "RainWheelModel" (182 : Nat) ({ cls := "RainWheelModel", name := "fine", desc := "()Z" } : Jvm.MethodName)) ∈ lw_all := lw_g (lw_at lw_m8 14 rfl) rfl
theorem q1790 : (Jvm.Cond.privateMethod ({ cls := "RainWheelModel", name := "fine", desc := "()Z" } : Jvm.MethodName)) ∈ lw_tbl := lw_at lw_m8 15 rfl
theorem q1791 : (Jvm.Cond.instanceMethod ({ cls := "RainWheelModel", name := "fine", desc := "()Z" } : Jvm.MethodName)) ∈ lw_all := lw_g (lw_at lw_m8 16 rfl) rfl
theorem q1792 : (Jvm.Cond.code ({ cls := "RainWheelModel", name := "fine", desc := "()Z" } : Jvm.MethodName) prog_19_method_6_code (1 : Nat) (Option.some Jvm.ClassFile.FieldType.boolean)) ∈ lw_all := lw_g (lw_at lw_m8 17 rfl) rfl
theorem q1793 : (Jvm.Cond.methodLink "RainWheelModel" (282 : Nat) ({ cls := "RainWheelModel", name := "isMore", desc := "()Z" } : Jvm.MethodName)) ∈ lw_all := lw_g (lw_at lw_m8 18 rfl) rfl
theorem q1794 : (Jvm.Cond.privateMethod ({ cls := "RainWheelModel", name := "isMore", desc := "()Z" } : Jvm.MethodName)) ∈ lw_tbl := lw_at lw_m8 19 rfl
theorem q1795 : (Jvm.Cond.instanceMethod ({ cls := "RainWheelModel", name := "isMore", desc := "()Z" } : Jvm.MethodName)) ∈ lw_all := lw_g (lw_at lw_m8 20 rfl) rfl
theorem q1796 : (Jvm.Cond.code ({ cls := "RainWheelModel", name := "isMore", desc := "()Z" } : Jvm.MethodName) prog_19_method_16_code (1 : Nat) (Option.some Jvm.ClassFile.FieldType.boolean)) ∈ lw_all := lw_g (lw_at lw_m8 21 rfl) rfl
theorem q1797 : (Jvm.Cond.methodLink "RainWheelModel" (165 : Nat) ({ cls := "RainWheelModel", name := "here", desc := "()I" } : Jvm.MethodName)) ∈ lw_all := lw_g (lw_at lw_m8 22 rfl) rfl
theorem q1798 : (Jvm.Cond.privateMethod ({ cls := "RainWheelModel", name := "here", desc := "()I" } : Jvm.MethodName)) ∈ lw_tbl := lw_at lw_m8 23 rfl
theorem q1799 : (Jvm.Cond.instanceMethod ({ cls := "RainWheelModel", name := "here", desc := "()I" } : Jvm.MethodName)) ∈ lw_all := lw_g (lw_at lw_m8 24 rfl) rfl
theorem q1800 : (Jvm.Cond.code ({ cls := "RainWheelModel", name := "here", desc := "()I" } : Jvm.MethodName) prog_19_method_8_code (1 : Nat) (Option.some Jvm.ClassFile.FieldType.int)) ∈ lw_all := lw_g (lw_at lw_m8 25 rfl) rfl
theorem q1801 : (Jvm.Cond.methodLink "RainWheelModel" (285 : Nat) ({ cls := "RainWheelModel", name := "word", desc := "()I" } : Jvm.MethodName)) ∈ lw_all := lw_g (lw_at lw_m8 26 rfl) rfl
theorem q1802 : (Jvm.Cond.privateMethod ({ cls := "RainWheelModel", name := "word", desc := "()I" } : Jvm.MethodName)) ∈ lw_tbl := lw_at lw_m8 27 rfl
theorem q1803 : (Jvm.Cond.instanceMethod ({ cls := "RainWheelModel", name := "word", desc := "()I" } : Jvm.MethodName)) ∈ lw_all := lw_g (lw_at lw_m8 28 rfl) rfl
theorem q1804 : (Jvm.Cond.code ({ cls := "RainWheelModel", name := "word", desc := "()I" } : Jvm.MethodName) prog_19_method_11_code (4 : Nat) (Option.some Jvm.ClassFile.FieldType.int)) ∈ lw_all := lw_g (lw_at lw_m8 29 rfl) rfl
theorem q1805 : (Jvm.Cond.methodLink "RainWheelModel" (169 : Nat) ({ cls := "RainWheelModel", name := "isSmall", desc := "(I)Z" } : Jvm.MethodName)) ∈ lw_all := lw_g (lw_at lw_m8 30 rfl) rfl
theorem q1806 : (Jvm.Cond.static ({ cls := "RainWheelModel", name := "isSmall", desc := "(I)Z" } : Jvm.MethodName)) ∈ lw_all := lw_g (lw_at lw_m8 31 rfl) rfl
theorem q1807 : (Jvm.Cond.code ({ cls := "RainWheelModel", name := "isSmall", desc := "(I)Z" } : Jvm.MethodName) prog_19_method_9_code (1 : Nat) (Option.some Jvm.ClassFile.FieldType.boolean)) ∈ lw_all := lw_g (lw_at lw_m8 32 rfl) rfl
theorem q1808 : (Jvm.Cond.methodLink "RainWheelModel" (288 : Nat) ({ cls := "RainWheelModel", name := "isThing", desc := "(I)Z" } : Jvm.MethodName)) ∈ lw_all := lw_g (lw_at lw_m8 33 rfl) rfl
theorem q1809 : (Jvm.Cond.static ({ cls := "RainWheelModel", name := "isThing", desc := "(I)Z" } : Jvm.MethodName)) ∈ lw_all := lw_g (lw_at lw_m8 34 rfl) rfl
theorem q1810 : (Jvm.Cond.code ({ cls := "RainWheelModel", name := "isThing", desc := "(I)Z" } : Jvm.MethodName) prog_19_method_25_code (1 : Nat) (Option.some Jvm.ClassFile.FieldType.boolean)) ∈ lw_all := lw_g (lw_at lw_m8 35 rfl) rfl
theorem q1811 : (Jvm.Cond.stringRef "RainWheelModel" (248 : Nat) "person") ∈ lw_tbl := lw_at lw_m8 36 rfl
theorem q1812 : (Jvm.Cond.methodLink "RainWheelModel" (250 : Nat) ({ cls := "RainWheelModel", name := "of", desc := "(Ljava/lang/String;)I" } : Jvm.MethodName)) ∈ lw_all := lw_g (lw_at lw_m8 37 rfl) rfl
theorem q1813 : (Jvm.Cond.static ({ cls := "RainWheelModel", name := "of", desc := "(Ljava/lang/String;)I" } : Jvm.MethodName)) ∈ lw_all := lw_g (lw_at lw_m8 38 rfl) rfl
theorem q1814 : (Jvm.Cond.code ({ cls := "RainWheelModel", name := "of", desc := "(Ljava/lang/String;)I" } : Jvm.MethodName) prog_19_method_12_code (3 : Nat) (Option.some Jvm.ClassFile.FieldType.int)) ∈ lw_all := lw_g (lw_at lw_m8 39 rfl) rfl
theorem q1815 : (Jvm.Cond.methodLink "RainWheelModel" (173 : Nat) ({ cls := "java/lang/String", name := "length", desc := "()I" } : Jvm.MethodName)) ∈ lw_all := lw_g (lw_at lw_m8 40 rfl) rfl
theorem q1816 : (Jvm.Cond.methodLink "RainWheelModel" (178 : Nat) ({ cls := "java/lang/String", name := "charAt", desc := "(I)C" } : Jvm.MethodName)) ∈ lw_all := lw_g (lw_at lw_m8 41 rfl) rfl
theorem q1817 : (Jvm.Cond.stringRef "RainWheelModel" (258 : Nat) "deed") ∈ lw_tbl := lw_at lw_m8 42 rfl
theorem q1818 : (Jvm.Cond.stringRef "RainWheelModel" (259 : Nat) "board") ∈ lw_tbl := lw_at lw_m8 43 rfl
theorem q1819 : (Jvm.Cond.stringRef "RainWheelModel" (260 : Nat) "nut") ∈ lw_tbl := lw_at lw_m8 44 rfl
theorem q1820 : (Jvm.Cond.stringRef "RainWheelModel" (272 : Nat) "cause") ∈ lw_tbl := lw_at lw_m8 45 rfl
theorem q1821 : (Jvm.Cond.methodLink "RainWheelModel" (291 : Nat) ({ cls := "RainWheelModel", name := "isOther", desc := "(I)Z" } : Jvm.MethodName)) ∈ lw_all := lw_g (lw_at lw_m8 46 rfl) rfl
theorem q1822 : (Jvm.Cond.static ({ cls := "RainWheelModel", name := "isOther", desc := "(I)Z" } : Jvm.MethodName)) ∈ lw_all := lw_g (lw_at lw_m8 47 rfl) rfl
theorem q1823 : (Jvm.Cond.code ({ cls := "RainWheelModel", name := "isOther", desc := "(I)Z" } : Jvm.MethodName) prog_19_method_26_code (1 : Nat) (Option.some Jvm.ClassFile.FieldType.boolean)) ∈ lw_all := lw_g (lw_at lw_m8 48 rfl) rfl
theorem q1824 : (Jvm.Cond.stringRef "RainWheelModel" (261 : Nat) "needs") ∈ lw_tbl := lw_at lw_m8 49 rfl
theorem q1825 : (Jvm.Cond.stringRef "RainWheelModel" (263 : Nat) "rain") ∈ lw_tbl := lw_at lw_m8 50 rfl
theorem q1826 : (Jvm.Cond.stringRef "RainWheelModel" (264 : Nat) "yard") ∈ lw_tbl := lw_at lw_m8 51 rfl
theorem q1827 : (Jvm.Cond.stringRef "RainWheelModel" (266 : Nat) "load") ∈ lw_tbl := lw_at lw_m8 52 rfl
theorem q1828 : (Jvm.Cond.stringRef "RainWheelModel" (268 : Nat) "stops") ∈ lw_tbl := lw_at lw_m8 53 rfl
theorem q1829 : (Jvm.Cond.stringRef "RainWheelModel" (270 : Nat) "loses") ∈ lw_tbl := lw_at lw_m8 54 rfl
theorem q1830 : (Jvm.Cond.stringRef "RainWheelModel" (273 : Nat) "soft") ∈ lw_tbl := lw_at lw_m8 55 rfl
theorem q1831 : (Jvm.Cond.methodLink "RainWheelModel" (189 : Nat) ({ cls := "RainWheelModel", name := "wrong", desc := "(II)V" } : Jvm.MethodName)) ∈ lw_all := lw_g (lw_at lw_m8 56 rfl) rfl
theorem q1832 : (Jvm.Cond.privateMethod ({ cls := "RainWheelModel", name := "wrong", desc := "(II)V" } : Jvm.MethodName)) ∈ lw_tbl := lw_at lw_m8 57 rfl
theorem q1833 : (Jvm.Cond.instanceMethod ({ cls := "RainWheelModel", name := "wrong", desc := "(II)V" } : Jvm.MethodName)) ∈ lw_all := lw_g (lw_at lw_m8 58 rfl) rfl
theorem q1834 : (Jvm.Cond.code ({ cls := "RainWheelModel", name := "wrong", desc := "(II)V" } : Jvm.MethodName) prog_19_method_7_code (3 : Nat) (Option.none : Option Jvm.ClassFile.FieldType)) ∈ lw_all := lw_g (lw_at lw_m8 59 rfl) rfl
theorem q1835 : (Jvm.Cond.methodLink "RainWheelModel" (294 : Nat) ({ cls := "RainWheelModel", name := "isFull", desc := "(I)Z" } : Jvm.MethodName)) ∈ lw_all := lw_g (lw_at lw_m8 60 rfl) rfl
theorem q1836 : (Jvm.Cond.privateMethod ({ cls := "RainWheelModel", name := "isFull", desc := "(I)Z" } : Jvm.MethodName)) ∈ lw_tbl := lw_at lw_m8 61 rfl
theorem q1837 : (Jvm.Cond.instanceMethod ({ cls := "RainWheelModel", name := "isFull", desc := "(I)Z" } : Jvm.MethodName)) ∈ lw_all := lw_g (lw_at lw_m8 62 rfl) rfl
theorem q1838 : (Jvm.Cond.code ({ cls := "RainWheelModel", name := "isFull", desc := "(I)Z" } : Jvm.MethodName) prog_19_method_27_code (2 : Nat) (Option.some Jvm.ClassFile.FieldType.boolean)) ∈ lw_all := lw_g (lw_at lw_m8 63 rfl) rfl
theorem q1839 : (Jvm.Cond.methodLink "RainWheelModel" (297 : Nat) ({ cls := "RainWheelModel", name := "pass", desc := "()V" } : Jvm.MethodName)) ∈ lw_all := lw_g (lw_at lw_m8 64 rfl) rfl
theorem q1840 : (Jvm.Cond.privateMethod ({ cls := "RainWheelModel", name := "pass", desc := "()V" } : Jvm.MethodName)) ∈ lw_tbl := lw_at lw_m8 65 rfl
theorem q1841 : (Jvm.Cond.instanceMethod ({ cls := "RainWheelModel", name := "pass", desc := "()V" } : Jvm.MethodName)) ∈ lw_all := lw_g (lw_at lw_m8 66 rfl) rfl
theorem q1842 : (Jvm.Cond.code ({ cls := "RainWheelModel", name := "pass", desc := "()V" } : Jvm.MethodName) prog_19_method_13_code (1 : Nat) (Option.none : Option Jvm.ClassFile.FieldType)) ∈ lw_all := lw_g (lw_at lw_m8 67 rfl) rfl
theorem q1843 : (Jvm.Cond.methodLink "RainWheelModel" (300 : Nat) ({ cls := "RainWheelModel", name := "readThings", desc := "(I)V" } : Jvm.MethodName)) ∈ lw_all := lw_g (lw_at lw_m8 68 rfl) rfl
theorem q1844 : (Jvm.Cond.privateMethod ({ cls := "RainWheelModel", name := "readThings", desc := "(I)V" } : Jvm.MethodName)) ∈ lw_tbl := lw_at lw_m8 69 rfl
theorem q1845 : (Jvm.Cond.instanceMethod ({ cls := "RainWheelModel", name := "readThings", desc := "(I)V" } : Jvm.MethodName)) ∈ lw_all := lw_g (lw_at lw_m8 70 rfl) rfl
theorem q1846 : (Jvm.Cond.code ({ cls := "RainWheelModel", name := "readThings", desc := "(I)V" } : Jvm.MethodName) prog_19_method_23_code (4 : Nat) (Option.none : Option Jvm.ClassFile.FieldType)) ∈ lw_all := lw_g (lw_at lw_m8 71 rfl) rfl
theorem q1847 : (Jvm.Cond.methodLink "RainWheelModel" (254 : Nat) ({ cls := "RainWheelModel", name := "readNumber", desc := "(II)I" } : Jvm.MethodName)) ∈ lw_all := lw_g (lw_at lw_m8 72 rfl) rfl
theorem q1848 : (Jvm.Cond.privateMethod ({ cls := "RainWheelModel", name := "readNumber", desc := "(II)I" } : Jvm.MethodName)) ∈ lw_tbl := lw_at lw_m8 73 rfl
theorem q1849 : (Jvm.Cond.instanceMethod ({ cls := "RainWheelModel", name := "readNumber", desc := "(II)I" } : Jvm.MethodName)) ∈ lw_all := lw_g (lw_at lw_m8 74 rfl) rfl
theorem q1850 : (Jvm.Cond.code ({ cls := "RainWheelModel", name := "readNumber", desc := "(II)I" } : Jvm.MethodName) prog_19_method_14_code (6 : Nat) (Option.some Jvm.ClassFile.FieldType.int)) ∈ lw_all := lw_g (lw_at lw_m8 75 rfl) rfl
theorem q1851 : (Jvm.Cond.methodLink "RainWheelModel" (186 : Nat) ({ cls := "RainWheelModel", name := "isDigit", desc := "(I)Z" } : Jvm.MethodName)) ∈ lw_all := lw_g (lw_at lw_m8 76 rfl) rfl
theorem q1852 : (Jvm.Cond.static ({ cls := "RainWheelModel", name := "isDigit", desc := "(I)Z" } : Jvm.MethodName)) ∈ lw_all := lw_g (lw_at lw_m8 77 rfl) rfl
theorem q1853 : (Jvm.Cond.code ({ cls := "RainWheelModel", name := "isDigit", desc := "(I)Z" } : Jvm.MethodName) prog_19_method_10_code (1 : Nat) (Option.some Jvm.ClassFile.FieldType.boolean)) ∈ lw_all := lw_g (lw_at lw_m8 78 rfl) rfl
theorem q1854 : (Jvm.Cond.methodLink "RainWheelModel" (303 : Nat) ({ cls := "RainWheelModel", name := "readOthers", desc := "(I)V" } : Jvm.MethodName)) ∈ lw_all := lw_g (lw_at lw_m8 79 rfl) rfl
theorem q1855 : (Jvm.Cond.privateMethod ({ cls := "RainWheelModel", name := "readOthers", desc := "(I)V" } : Jvm.MethodName)) ∈ lw_tbl := lw_at lw_m8 80 rfl
theorem q1856 : (Jvm.Cond.instanceMethod ({ cls := "RainWheelModel", name := "readOthers", desc := "(I)V" } : Jvm.MethodName)) ∈ lw_all := lw_g (lw_at lw_m8 81 rfl) rfl
theorem q1857 : (Jvm.Cond.code ({ cls := "RainWheelModel", name := "readOthers", desc := "(I)V" } : Jvm.MethodName) prog_19_method_24_code (5 : Nat) (Option.none : Option Jvm.ClassFile.FieldType)) ∈ lw_all := lw_g (lw_at lw_m8 82 rfl) rfl
theorem q1858 : (Jvm.Cond.methodLink "RainWheelModel" (306 : Nat) ({ cls := "RainWheelModel", name := "sign", desc := "(I)V" } : Jvm.MethodName)) ∈ lw_all := lw_g (lw_at lw_m8 83 rfl) rfl
theorem q1859 : (Jvm.Cond.privateMethod ({ cls := "RainWheelModel", name := "sign", desc := "(I)V" } : Jvm.MethodName)) ∈ lw_tbl := lw_at lw_m8 84 rfl
theorem q1860 : (Jvm.Cond.instanceMethod ({ cls := "RainWheelModel", name := "sign", desc := "(I)V" } : Jvm.MethodName)) ∈ lw_all := lw_g (lw_at lw_m8 85 rfl) rfl
theorem q1861 : (Jvm.Cond.code ({ cls := "RainWheelModel", name := "sign", desc := "(I)V" } : Jvm.MethodName) prog_19_method_15_code (2 : Nat) (Option.none : Option Jvm.ClassFile.FieldType)) ∈ lw_all := lw_g (lw_at lw_m8 86 rfl) rfl
theorem q1862 : (Jvm.Cond.methodLink "RainWheelModel" (309 : Nat) ({ cls := "RainWheelModel", name := "result", desc := "(I)I" } : Jvm.MethodName)) ∈ lw_all := lw_g (lw_at lw_m8 87 rfl) rfl
theorem q1863 : (Jvm.Cond.privateMethod ({ cls := "RainWheelModel", name := "result", desc := "(I)I" } : Jvm.MethodName)) ∈ lw_tbl := lw_at lw_m8 88 rfl
theorem q1864 : (Jvm.Cond.instanceMethod ({ cls := "RainWheelModel", name := "result", desc := "(I)I" } : Jvm.MethodName)) ∈ lw_all := lw_g (lw_at lw_m8 89 rfl) rfl
theorem q1865 : (Jvm.Cond.code ({ cls := "RainWheelModel", name := "result", desc := "(I)I" } : Jvm.MethodName) prog_19_method_18_code (2 : Nat) (Option.some Jvm.ClassFile.FieldType.int)) ∈ lw_all := lw_g (lw_at lw_m8 90 rfl) rfl
theorem q1867 : (Jvm.Cond.instanceMethod ({ cls := "RainWheelModel", name := "law", desc := "(I)I" } : Jvm.MethodName)) ∈ lw_all := lw_g (lw_at lw_m8 92 rfl) rfl
theorem q1868 : (Jvm.Cond.selects "RainWheelModel" ({ cls := "RainWheelModel", name := "law", desc := "(I)I" } : Jvm.MethodName) ({ cls := "RainWheelModel", name := "law", desc := "(I)I" } : Jvm.MethodName)) ∈ lw_all := lw_g (lw_at lw_m8 93 rfl) rfl
theorem q1869 : (Jvm.Cond.code ({ cls := "RainWheelModel", name := "law", desc := "(I)I" } : Jvm.MethodName) prog_19_method_37_code (3 : Nat) (Option.some Jvm.ClassFile.FieldType.int)) ∈ lw_all := lw_g (lw_at lw_m8 94 rfl) rfl
theorem q1870 : (Jvm.Cond.methodLink "RainWheelModel" (328 : Nat) ({ cls := "RainWheelModel", name := "readSum", desc := "()V" } : Jvm.MethodName)) ∈ lw_all := lw_g (lw_at lw_m8 95 rfl) rfl
theorem q1871 : (Jvm.Cond.privateMethod ({ cls := "RainWheelModel", name := "readSum", desc := "()V" } : Jvm.MethodName)) ∈ lw_tbl := lw_at lw_m8 96 rfl
theorem q1872 : (Jvm.Cond.instanceMethod ({ cls := "RainWheelModel", name := "readSum", desc := "()V" } : Jvm.MethodName)) ∈ lw_all := lw_g (lw_at lw_m8 97 rfl) rfl
theorem q1873 : (Jvm.Cond.code ({ cls := "RainWheelModel", name := "readSum", desc := "()V" } : Jvm.MethodName) prog_19_method_31_code (2 : Nat) (Option.none : Option Jvm.ClassFile.FieldType)) ∈ lw_all := lw_g (lw_at lw_m8 98 rfl) rfl
theorem q1874 : (Jvm.Cond.methodLink "RainWheelModel" (316 : Nat) ({ cls := "RainWheelModel", name := "readProduct", desc := "()V" } : Jvm.MethodName)) ∈ lw_all := lw_g (lw_at lw_m8 99 rfl) rfl
theorem q1875 : (Jvm.Cond.privateMethod ({ cls := "RainWheelModel", name := "readProduct", desc := "()V" } : Jvm.MethodName)) ∈ lw_tbl := lw_at lw_m8 100 rfl
theorem q1876 : (Jvm.Cond.instanceMethod ({ cls := "RainWheelModel", name := "readProduct", desc := "()V" } : Jvm.MethodName)) ∈ lw_all := lw_g (lw_at lw_m8 101 rfl) rfl
theorem q1877 : (Jvm.Cond.code ({ cls := "RainWheelModel", name := "readProduct", desc := "()V" } : Jvm.MethodName) prog_19_method_32_code (2 : Nat) (Option.none : Option Jvm.ClassFile.FieldType)) ∈ lw_all := lw_g (lw_at lw_m8 102 rfl) rfl
theorem q1878 : (Jvm.Cond.methodLink "RainWheelModel" (322 : Nat) ({ cls := "RainWheelModel", name := "readUnit", desc := "()V" } : Jvm.MethodName)) ∈ lw_all := lw_g (lw_at lw_m8 103 rfl) rfl
theorem q1879 : (Jvm.Cond.privateMethod ({ cls := "RainWheelModel", name := "readUnit", desc := "()V" } : Jvm.MethodName)) ∈ lw_tbl := lw_at lw_m8 104 rfl
theorem q1880 : (Jvm.Cond.instanceMethod ({ cls := "RainWheelModel", name := "readUnit", desc := "()V" } : Jvm.MethodName)) ∈ lw_all := lw_g (lw_at lw_m8 105 rfl) rfl
theorem q1881 : (Jvm.Cond.code ({ cls := "RainWheelModel", name := "readUnit", desc := "()V" } : Jvm.MethodName) prog_19_method_36_code (2 : Nat) (Option.none : Option Jvm.ClassFile.FieldType)) ∈ lw_all := lw_g (lw_at lw_m8 106 rfl) rfl
theorem q1882 : (Jvm.Cond.methodLink "RainWheelModel" (325 : Nat) ({ cls := "RainWheelModel", name := "opensOne", desc := "(I)V" } : Jvm.MethodName)) ∈ lw_all := lw_g (lw_at lw_m8 107 rfl) rfl
theorem q1883 : (Jvm.Cond.privateMethod ({ cls := "RainWheelModel", name := "opensOne", desc := "(I)V" } : Jvm.MethodName)) ∈ lw_tbl := lw_at lw_m8 108 rfl
theorem q1884 : (Jvm.Cond.instanceMethod ({ cls := "RainWheelModel", name := "opensOne", desc := "(I)V" } : Jvm.MethodName)) ∈ lw_all := lw_g (lw_at lw_m8 109 rfl) rfl
theorem q1885 : (Jvm.Cond.code ({ cls := "RainWheelModel", name := "opensOne", desc := "(I)V" } : Jvm.MethodName) prog_19_method_30_code (2 : Nat) (Option.none : Option Jvm.ClassFile.FieldType)) ∈ lw_all := lw_g (lw_at lw_m8 110 rfl) rfl
theorem q1886 : (Jvm.Cond.methodLink "RainWheelModel" (319 : Nat) ({ cls := "RainWheelModel", name := "emit", desc := "(II)V" } : Jvm.MethodName)) ∈ lw_all := lw_g (lw_at lw_m8 111 rfl) rfl
theorem q1887 : (Jvm.Cond.privateMethod ({ cls := "RainWheelModel", name := "emit", desc := "(II)V" } : Jvm.MethodName)) ∈ lw_tbl := lw_at lw_m8 112 rfl
theorem q1888 : (Jvm.Cond.instanceMethod ({ cls := "RainWheelModel", name := "emit", desc := "(II)V" } : Jvm.MethodName)) ∈ lw_all := lw_g (lw_at lw_m8 113 rfl) rfl
theorem q1889 : (Jvm.Cond.code ({ cls := "RainWheelModel", name := "emit", desc := "(II)V" } : Jvm.MethodName) prog_19_method_29_code (3 : Nat) (Option.none : Option Jvm.ClassFile.FieldType)) ∈ lw_all := lw_g (lw_at lw_m8 114 rfl) rfl
theorem q1890 : (Jvm.Cond.stringRef "RainWheelModel" (344 : Nat) "least") ∈ lw_tbl := lw_at lw_m8 115 rfl
theorem q1891 : (Jvm.Cond.methodLink "RainWheelModel" (346 : Nat) ({ cls := "RainWheelModel", name := "readTwo", desc := "(II)V" } : Jvm.MethodName)) ∈ lw_all := lw_g (lw_at lw_m8 116 rfl) rfl
theorem q1892 : (Jvm.Cond.privateMethod ({ cls := "RainWheelModel", name := "readTwo", desc := "(II)V" } : Jvm.MethodName)) ∈ lw_tbl := lw_at lw_m8 117 rfl
theorem q1893 : (Jvm.Cond.instanceMethod ({ cls := "RainWheelModel", name := "readTwo", desc := "(II)V" } : Jvm.MethodName)) ∈ lw_all := lw_g (lw_at lw_m8 118 rfl) rfl
theorem q1894 : (Jvm.Cond.code ({ cls := "RainWheelModel", name := "readTwo", desc := "(II)V" } : Jvm.MethodName) prog_19_method_33_code (3 : Nat) (Option.none : Option Jvm.ClassFile.FieldType)) ∈ lw_all := lw_g (lw_at lw_m8 119 rfl) rfl
theorem q1895 : (Jvm.Cond.stringRef "RainWheelModel" (349 : Nat) "most") ∈ lw_tbl := lw_at lw_m8 120 rfl
theorem q1896 : (Jvm.Cond.methodLink "RainWheelModel" (351 : Nat) ({ cls := "RainWheelModel", name := "factHere", desc := "()I" } : Jvm.MethodName)) ∈ lw_all := lw_g (lw_at lw_m8 121 rfl) rfl
theorem q1897 : (Jvm.Cond.privateMethod ({ cls := "RainWheelModel", name := "factHere", desc := "()I" } : Jvm.MethodName)) ∈ lw_tbl := lw_at lw_m8 122 rfl
theorem q1898 : (Jvm.Cond.instanceMethod ({ cls := "RainWheelModel", name := "factHere", desc := "()I" } : Jvm.MethodName)) ∈ lw_all := lw_g (lw_at lw_m8 123 rfl) rfl
theorem q1899 : (Jvm.Cond.code ({ cls := "RainWheelModel", name := "factHere", desc := "()I" } : Jvm.MethodName) prog_19_method_35_code (2 : Nat) (Option.some Jvm.ClassFile.FieldType.int)) ∈ lw_all := lw_g (lw_at lw_m8 124 rfl) rfl
theorem q1900 : (Jvm.Cond.stringRef "RainWheelModel" (331 : Nat) "minutes") ∈ lw_tbl := lw_at lw_m8 125 rfl
theorem q1901 : (Jvm.Cond.methodLink "RainWheelModel" (333 : Nat) ({ cls := "RainWheelModel", name := "standsHere", desc := "(Ljava/lang/String;)Z" } : Jvm.MethodName)) ∈ lw_all := lw_g (lw_at lw_m8 126 rfl) rfl
theorem q1902 : (Jvm.Cond.privateMethod ({ cls := "RainWheelModel", name := "standsHere", desc := "(Ljava/lang/String;)Z" } : Jvm.MethodName)) ∈ lw_tbl := lw_at lw_m8 127 rfl
theorem q1903 : (Jvm.Cond.instanceMethod ({ cls := "RainWheelModel", name := "standsHere", desc := "(Ljava/lang/String;)Z" } : Jvm.MethodName)) ∈ lw_all := lw_g (lw_at lw_m8 128 rfl) rfl
theorem q1904 : (Jvm.Cond.code ({ cls := "RainWheelModel", name := "standsHere", desc := "(Ljava/lang/String;)Z" } : Jvm.MethodName) prog_19_method_34_code (3 : Nat) (Option.some Jvm.ClassFile.FieldType.boolean)) ∈ lw_all := lw_g (lw_at lw_m8 129 rfl) rfl
theorem q1905 : (Jvm.Cond.stringRef "RainWheelModel" (337 : Nat) "hands") ∈ lw_tbl := lw_at lw_m8 130 rfl
theorem q1906 : (Jvm.Cond.stringRef "RainWheelModel" (339 : Nat) "strong") ∈ lw_tbl := lw_at lw_m8 131 rfl
theorem q1907 : (Jvm.Cond.stringRef "RainWheelModel" (340 : Nat) "minute") ∈ lw_tbl := lw_at lw_m8 132 rfl
theorem q1908 : (Jvm.Cond.stringRef "RainWheelModel" (342 : Nat) "out") ∈ lw_tbl := lw_at lw_m8 133 rfl
theorem q1910 : (Jvm.Cond.instanceMethod ({ cls := "RainWheelModel", name := "plan", desc := "(I)I" } : Jvm.MethodName)) ∈ lw_all := lw_g (lw_at lw_m8 135 rfl) rfl
theorem q1911 : (Jvm.Cond.selects "RainWheelModel" ({ cls := "RainWheelModel", name := "plan", desc := "(I)I" } : Jvm.MethodName) ({ cls := "RainWheelModel", name := "plan", desc := "(I)I" } : Jvm.MethodName)) ∈ lw_all := lw_g (lw_at lw_m8 136 rfl) rfl
theorem q1912 : (Jvm.Cond.code ({ cls := "RainWheelModel", name := "plan", desc := "(I)I" } : Jvm.MethodName) prog_19_method_41_code (7 : Nat) (Option.some Jvm.ClassFile.FieldType.int)) ∈ lw_all := lw_g (lw_at lw_m8 137 rfl) rfl
theorem q1913 : (Jvm.Cond.methodLink "RainWheelModel" (361 : Nat) ({ cls := "RainWheelModel", name := "readPeople", desc := "()I" } : Jvm.MethodName)) ∈ lw_all := lw_g (lw_at lw_m8 138 rfl) rfl
theorem q1914 : (Jvm.Cond.privateMethod ({ cls := "RainWheelModel", name := "readPeople", desc := "()I" } : Jvm.MethodName)) ∈ lw_tbl := lw_at lw_m8 139 rfl
theorem q1915 : (Jvm.Cond.instanceMethod ({ cls := "RainWheelModel", name := "readPeople", desc := "()I" } : Jvm.MethodName)) ∈ lw_all := lw_g (lw_at lw_m8 140 rfl) rfl
theorem q1916 : (Jvm.Cond.code ({ cls := "RainWheelModel", name := "readPeople", desc := "()I" } : Jvm.MethodName) prog_19_method_42_code (4 : Nat) (Option.some Jvm.ClassFile.FieldType.int)) ∈ lw_all := lw_g (lw_at lw_m8 141 rfl) rfl
theorem q1918 : (Jvm.Cond.instanceMethod ({ cls := "RainWheelModel", name := "book", desc := "(I)I" } : Jvm.MethodName)) ∈ lw_all := lw_g (lw_at lw_m8 143 rfl) rfl
theorem q1919 : (Jvm.Cond.selects "RainWheelModel" ({ cls := "RainWheelModel", name := "book", desc := "(I)I" } : Jvm.MethodName) ({ cls := "RainWheelModel", name := "book", desc := "(I)I" } : Jvm.MethodName)) ∈ lw_all := lw_g (lw_at lw_m8 144 rfl) rfl
theorem q1920 : (Jvm.Cond.code ({ cls := "RainWheelModel", name := "book", desc := "(I)I" } : Jvm.MethodName) prog_19_method_43_code (6 : Nat) (Option.some Jvm.ClassFile.FieldType.int)) ∈ lw_all := lw_g (lw_at lw_m8 145 rfl) rfl
theorem q1922 : (Jvm.Cond.instanceMethod ({ cls := "RainWheelModel", name := "told", desc := "(I)I" } : Jvm.MethodName)) ∈ lw_all := lw_g (lw_at lw_m8 147 rfl) rfl
theorem q1923 : (Jvm.Cond.selects "RainWheelModel" ({ cls := "RainWheelModel", name := "told", desc := "(I)I" } : Jvm.MethodName) ({ cls := "RainWheelModel", name := "told", desc := "(I)I" } : Jvm.MethodName)) ∈ lw_all := lw_g (lw_at lw_m8 148 rfl) rfl
theorem q1924 : (Jvm.Cond.code ({ cls := "RainWheelModel", name := "told", desc := "(I)I" } : Jvm.MethodName) prog_19_method_44_code (2 : Nat) (Option.some Jvm.ClassFile.FieldType.int)) ∈ lw_all := lw_g (lw_at lw_m8 149 rfl) rfl
theorem q1925 : (Jvm.Cond.methodLink "RainWheelModel" (364 : Nat) ({ cls := "RainWheelModel", name := "within", desc := "(III)Z" } : Jvm.MethodName)) ∈ lw_all := lw_g (lw_at lw_m8 150 rfl) rfl
theorem q1926 : (Jvm.Cond.static ({ cls := "RainWheelModel", name := "within", desc := "(III)Z" } : Jvm.MethodName)) ∈ lw_all := lw_g (lw_at lw_m8 151 rfl) rfl
theorem q1927 : (Jvm.Cond.code ({ cls := "RainWheelModel", name := "within", desc := "(III)Z" } : Jvm.MethodName) prog_19_method_3_code (3 : Nat) (Option.some Jvm.ClassFile.FieldType.boolean)) ∈ lw_all := lw_g (lw_at lw_m8 152 rfl) rfl
theorem q1929 : (Jvm.Cond.instanceMethod ({ cls := "RainWheelModel", name := "deed", desc := "(II)I" } : Jvm.MethodName)) ∈ lw_all := lw_g (lw_at lw_m8 154 rfl) rfl
theorem q1930 : (Jvm.Cond.selects "RainWheelModel" ({ cls := "RainWheelModel", name := "deed", desc := "(II)I" } : Jvm.MethodName) ({ cls := "RainWheelModel", name := "deed", desc := "(II)I" } : Jvm.MethodName)) ∈ lw_all := lw_g (lw_at lw_m8 155 rfl) rfl
theorem q1931 : (Jvm.Cond.code ({ cls := "RainWheelModel", name := "deed", desc := "(II)I" } : Jvm.MethodName) prog_19_method_49_code (3 : Nat) (Option.some Jvm.ClassFile.FieldType.int)) ∈ lw_all := lw_g (lw_at lw_m8 156 rfl) rfl
theorem q1932 : (Jvm.Cond.methodLink "RainWheelModel" (368 : Nat) ({ cls := "RainWheelModel", name := "isDeed", desc := "(II)Z" } : Jvm.MethodName)) ∈ lw_all := lw_g (lw_at lw_m8 157 rfl) rfl
theorem q1933 : (Jvm.Cond.privateMethod ({ cls := "RainWheelModel", name := "isDeed", desc := "(II)Z" } : Jvm.MethodName)) ∈ lw_tbl := lw_at lw_m8 158 rfl
theorem q1934 : (Jvm.Cond.instanceMethod ({ cls := "RainWheelModel", name := "isDeed", desc := "(II)Z" } : Jvm.MethodName)) ∈ lw_all := lw_g (lw_at lw_m8 159 rfl) rfl
theorem q1935 : (Jvm.Cond.code ({ cls := "RainWheelModel", name := "isDeed", desc := "(II)Z" } : Jvm.MethodName) prog_19_method_45_code (3 : Nat) (Option.some Jvm.ClassFile.FieldType.boolean)) ∈ lw_all := lw_g (lw_at lw_m8 160 rfl) rfl
theorem q1937 : (Jvm.Cond.instanceMethod ({ cls := "RainWheelModel", name := "strong", desc := "(I)I" } : Jvm.MethodName)) ∈ lw_all := lw_g (lw_at lw_m8 162 rfl) rfl
theorem q1938 : (Jvm.Cond.selects "RainWheelModel" ({ cls := "RainWheelModel", name := "strong", desc := "(I)I" } : Jvm.MethodName) ({ cls := "RainWheelModel", name := "strong", desc := "(I)I" } : Jvm.MethodName)) ∈ lw_all := lw_g (lw_at lw_m8 163 rfl) rfl
theorem q1939 : (Jvm.Cond.code ({ cls := "RainWheelModel", name := "strong", desc := "(I)I" } : Jvm.MethodName) prog_19_method_50_code (2 : Nat) (Option.some Jvm.ClassFile.FieldType.int)) ∈ lw_all := lw_g (lw_at lw_m8 164 rfl) rfl
theorem q1940 : (Jvm.Cond.methodLink "RainWheelModel" (372 : Nat) ({ cls := "RainWheelModel", name := "isPerson", desc := "(II)Z" } : Jvm.MethodName)) ∈ lw_all := lw_g (lw_at lw_m8 165 rfl) rfl
theorem q1941 : (Jvm.Cond.privateMethod ({ cls := "RainWheelModel", name := "isPerson", desc := "(II)Z" } : Jvm.MethodName)) ∈ lw_tbl := lw_at lw_m8 166 rfl
theorem q1942 : (Jvm.Cond.instanceMethod ({ cls := "RainWheelModel", name := "isPerson", desc := "(II)Z" } : Jvm.MethodName)) ∈ lw_all := lw_g (lw_at lw_m8 167 rfl) rfl
theorem q1943 : (Jvm.Cond.code ({ cls := "RainWheelModel", name := "isPerson", desc := "(II)Z" } : Jvm.MethodName) prog_19_method_46_code (3 : Nat) (Option.some Jvm.ClassFile.FieldType.boolean)) ∈ lw_all := lw_g (lw_at lw_m8 168 rfl) rfl
theorem q1945 : (Jvm.Cond.instanceMethod ({ cls := "RainWheelModel", name := "bears", desc := "(I)I" } : Jvm.MethodName)) ∈ lw_all := lw_g (lw_at lw_m8 170 rfl) rfl
theorem q1946 : (Jvm.Cond.selects "RainWheelModel" ({ cls := "RainWheelModel", name := "bears", desc := "(I)I" } : Jvm.MethodName) ({ cls := "RainWheelModel", name := "bears", desc := "(I)I" } : Jvm.MethodName)) ∈ lw_all := lw_g (lw_at lw_m8 171 rfl) rfl
theorem q1947 : (Jvm.Cond.code ({ cls := "RainWheelModel", name := "bears", desc := "(I)I" } : Jvm.MethodName) prog_19_method_51_code (2 : Nat) (Option.some Jvm.ClassFile.FieldType.int)) ∈ lw_all := lw_g (lw_at lw_m8 172 rfl) rfl
theorem q1949 : (Jvm.Cond.instanceMethod ({ cls := "RainWheelModel", name := "rains", desc := "(I)Z" } : Jvm.MethodName)) ∈ lw_all := lw_g (lw_at lw_m8 174 rfl) rfl
theorem q1950 : (Jvm.Cond.selects "RainWheelModel" ({ cls := "RainWheelModel", name := "rains", desc := "(I)Z" } : Jvm.MethodName) ({ cls := "RainWheelModel", name := "rains", desc := "(I)Z" } : Jvm.MethodName)) ∈ lw_all := lw_g (lw_at lw_m8 175 rfl) rfl
theorem q1951 : (Jvm.Cond.code ({ cls := "RainWheelModel", name := "rains", desc := "(I)Z" } : Jvm.MethodName) prog_19_method_53_code (2 : Nat) (Option.some Jvm.ClassFile.FieldType.boolean)) ∈ lw_all := lw_g (lw_at lw_m8 176 rfl) rfl
theorem q1953 : (Jvm.Cond.instanceMethod ({ cls := "RainWheelModel", name := "would", desc := "(IIIIII)I" } : Jvm.MethodName)) ∈ lw_all := lw_g (lw_at lw_m8 178 rfl) rfl
theorem q1954 : (Jvm.Cond.selects "RainWheelModel" ({ cls := "RainWheelModel", name := "would", desc := "(IIIIII)I" } : Jvm.MethodName) ({ cls := "RainWheelModel", name := "would", desc := "(IIIIII)I" } : Jvm.MethodName)) ∈ lw_all := lw_g (lw_at lw_m8 179 rfl) rfl
theorem q1955 : (Jvm.Cond.code ({ cls := "RainWheelModel", name := "would", desc := "(IIIIII)I" } : Jvm.MethodName) prog_19_method_54_code (7 : Nat) (Option.some Jvm.ClassFile.FieldType.int)) ∈ lw_all := lw_g (lw_at lw_m8 180 rfl) rfl
theorem q1956 : (Jvm.Cond.methodLink "RainWheelModel" (375 : Nat) ({ cls := "RainWheelModel", name := "lastsNow", desc := "()I" } : Jvm.MethodName)) ∈ lw_all := lw_g (lw_at lw_m8 181 rfl) rfl
theorem q1957 : (Jvm.Cond.privateMethod ({ cls := "RainWheelModel", name := "lastsNow", desc := "()I" } : Jvm.MethodName)) ∈ lw_tbl := lw_at lw_m8 182 rfl
theorem q1958 : (Jvm.Cond.instanceMethod ({ cls := "RainWheelModel", name := "lastsNow", desc := "()I" } : Jvm.MethodName)) ∈ lw_all := lw_g (lw_at lw_m8 183 rfl) rfl
theorem q1959 : (Jvm.Cond.code ({ cls := "RainWheelModel", name := "lastsNow", desc := "()I" } : Jvm.MethodName) prog_19_method_40_code (2 : Nat) (Option.some Jvm.ClassFile.FieldType.int)) ∈ lw_all := lw_g (lw_at lw_m8 184 rfl) rfl
theorem q1960 : (Jvm.Cond.methodLink "RainWheelModel" (358 : Nat) ({ cls := "RainWheelModel", name := "valueNow", desc := "()I" } : Jvm.MethodName)) ∈ lw_all := lw_g (lw_at lw_m8 185 rfl) rfl
theorem q1961 : (Jvm.Cond.privateMethod ({ cls := "RainWheelModel", name := "valueNow", desc := "()I" } : Jvm.MethodName)) ∈ lw_tbl := lw_at lw_m8 186 rfl
theorem q1962 : (Jvm.Cond.instanceMethod ({ cls := "RainWheelModel", name := "valueNow", desc := "()I" } : Jvm.MethodName)) ∈ lw_all := lw_g (lw_at lw_m8 187 rfl) rfl
theorem q1963 : (Jvm.Cond.code ({ cls := "RainWheelModel", name := "valueNow", desc := "()I" } : Jvm.MethodName) prog_19_method_38_code (4 : Nat) (Option.some Jvm.ClassFile.FieldType.int)) ∈ lw_all := lw_g (lw_at lw_m8 188 rfl) rfl
theorem q1964 : (Jvm.Cond.methodLink "RainWheelModel" (354 : Nat) ({ cls := "RainWheelModel", name := "both", desc := "(III)I" } : Jvm.MethodName)) ∈ lw_all := lw_g (lw_at lw_m8 189 rfl) rfl
theorem q1965 : (Jvm.Cond.static ({ cls := "RainWheelModel", name := "both", desc := "(III)I" } : Jvm.MethodName)) ∈ lw_all := lw_g (lw_at lw_m8 190 rfl) rfl
theorem q1966 : (Jvm.Cond.code ({ cls := "RainWheelModel", name := "both", desc := "(III)I" } : Jvm.MethodName) prog_19_method_39_code (3 : Nat) (Option.some Jvm.ClassFile.FieldType.int)) ∈ lw_all := lw_g (lw_at lw_m8 191 rfl) rfl
theorem q1968 : (Jvm.Cond.instanceMethod ({ cls := "RainWheelModel", name := "line", desc := "(II)I" } : Jvm.MethodName)) ∈ lw_all := lw_g (lw_at lw_m8 193 rfl) rfl
theorem q1969 : (Jvm.Cond.selects "RainWheelModel" ({ cls := "RainWheelModel", name := "line", desc := "(II)I" } : Jvm.MethodName) ({ cls := "RainWheelModel", name := "line", desc := "(II)I" } : Jvm.MethodName)) ∈ lw_all := lw_g (lw_at lw_m8 194 rfl) rfl
theorem q1970 : (Jvm.Cond.code ({ cls := "RainWheelModel", name := "line", desc := "(II)I" } : Jvm.MethodName) prog_19_method_63_code (3 : Nat) (Option.some Jvm.ClassFile.FieldType.int)) ∈ lw_all := lw_g (lw_at lw_m8 195 rfl) rfl
theorem q1971 : (Jvm.Cond.methodLink "RainWheelModel" (405 : Nat) ({ cls := "RainWheelModel", name := "isLine", desc := "(II)Z" } : Jvm.MethodName)) ∈ lw_all := lw_g (lw_at lw_m8 196 rfl) rfl
theorem q1972 : (Jvm.Cond.privateMethod ({ cls := "RainWheelModel", name := "isLine", desc := "(II)Z" } : Jvm.MethodName)) ∈ lw_tbl := lw_at lw_m8 197 rfl
theorem q1973 : (Jvm.Cond.instanceMethod ({ cls := "RainWheelModel", name := "isLine", desc := "(II)Z" } : Jvm.MethodName)) ∈ lw_all := lw_g (lw_at lw_m8 198 rfl) rfl
theorem q1974 : (Jvm.Cond.code ({ cls := "RainWheelModel", name := "isLine", desc := "(II)Z" } : Jvm.MethodName) prog_19_method_48_code (3 : Nat) (Option.some Jvm.ClassFile.FieldType.boolean)) ∈ lw_all := lw_g (lw_at lw_m8 199 rfl) rfl
theorem q1975 : (Jvm.Cond.methodLink "RainWheelModel" (408 : Nat) ({ cls := "RainWheelModel", name := "goes", desc := "(Z)I" } : Jvm.MethodName)) ∈ lw_all := lw_g (lw_at lw_m8 200 rfl) rfl
theorem q1976 : (Jvm.Cond.privateMethod ({ cls := "RainWheelModel", name := "goes", desc := "(Z)I" } : Jvm.MethodName)) ∈ lw_tbl := lw_at lw_m8 201 rfl
theorem q1977 : (Jvm.Cond.instanceMethod ({ cls := "RainWheelModel", name := "goes", desc := "(Z)I" } : Jvm.MethodName)) ∈ lw_all := lw_g (lw_at lw_m8 202 rfl) rfl
theorem q1978 : (Jvm.Cond.code ({ cls := "RainWheelModel", name := "goes", desc := "(Z)I" } : Jvm.MethodName) prog_19_method_61_code (9 : Nat) (Option.some Jvm.ClassFile.FieldType.int)) ∈ lw_all := lw_g (lw_at lw_m8 203 rfl) rfl
theorem q1979 : (Jvm.Cond.methodLink "RainWheelModel" (390 : Nat) ({ cls := "RainWheelModel", name := "mayDo", desc := "(II)Z" } : Jvm.MethodName)) ∈ lw_all := lw_g (lw_at lw_m8 204 rfl) rfl
theorem q1980 : (Jvm.Cond.privateMethod ({ cls := "RainWheelModel", name := "mayDo", desc := "(II)Z" } : Jvm.MethodName)) ∈ lw_tbl := lw_at lw_m8 205 rfl
theorem q1981 : (Jvm.Cond.instanceMethod ({ cls := "RainWheelModel", name := "mayDo", desc := "(II)Z" } : Jvm.MethodName)) ∈ lw_all := lw_g (lw_at lw_m8 206 rfl) rfl
theorem q1982 : (Jvm.Cond.code ({ cls := "RainWheelModel", name := "mayDo", desc := "(II)Z" } : Jvm.MethodName) prog_19_method_57_code (3 : Nat) (Option.some Jvm.ClassFile.FieldType.boolean)) ∈ lw_all := lw_g (lw_at lw_m8 207 rfl) rfl
theorem q1983 : (Jvm.Cond.methodLink "RainWheelModel" (378 : Nat) ({ cls := "RainWheelModel", name := "onesOf", desc := "(I)I" } : Jvm.MethodName)) ∈ lw_all := lw_g (lw_at lw_m8 208 rfl) rfl
theorem q1984 : (Jvm.Cond.privateMethod ({ cls := "RainWheelModel", name := "onesOf", desc := "(I)I" } : Jvm.MethodName)) ∈ lw_tbl := lw_at lw_m8 209 rfl
theorem q1985 : (Jvm.Cond.instanceMethod ({ cls := "RainWheelModel", name := "onesOf", desc := "(I)I" } : Jvm.MethodName)) ∈ lw_all := lw_g (lw_at lw_m8 210 rfl) rfl
theorem q1986 : (Jvm.Cond.code ({ cls := "RainWheelModel", name := "onesOf", desc := "(I)I" } : Jvm.MethodName) prog_19_method_56_code (4 : Nat) (Option.some Jvm.ClassFile.FieldType.int)) ∈ lw_all := lw_g (lw_at lw_m8 211 rfl) rfl
theorem q1987 : (Jvm.Cond.methodLink "RainWheelModel" (381 : Nat) ({ cls := "RainWheelModel", name := "strengthOf", desc := "(I)I" } : Jvm.MethodName)) ∈ lw_all := lw_g (lw_at lw_m8 212 rfl) rfl
theorem q1988 : (Jvm.Cond.privateMethod ({ cls := "RainWheelModel", name := "strengthOf", desc := "(I)I" } : Jvm.MethodName)) ∈ lw_tbl := lw_at lw_m8 213 rfl
theorem q1989 : (Jvm.Cond.instanceMethod ({ cls := "RainWheelModel", name := "strengthOf", desc := "(I)I" } : Jvm.MethodName)) ∈ lw_all := lw_g (lw_at lw_m8 214 rfl) rfl
theorem q1990 : (Jvm.Cond.code ({ cls := "RainWheelModel", name := "strengthOf", desc := "(I)I" } : Jvm.MethodName) prog_19_method_55_code (4 : Nat) (Option.some Jvm.ClassFile.FieldType.int)) ∈ lw_all := lw_g (lw_at lw_m8 215 rfl) rfl
theorem q1991 : (Jvm.Cond.methodLink "RainWheelModel" (393 : Nat) ({ cls := "RainWheelModel", name := "beginOf", desc := "(II)I" } : Jvm.MethodName)) ∈ lw_all := lw_g (lw_at lw_m8 216 rfl) rfl
theorem q1992 : (Jvm.Cond.privateMethod ({ cls := "RainWheelModel", name := "beginOf", desc := "(II)I" } : Jvm.MethodName)) ∈ lw_tbl := lw_at lw_m8 217 rfl
theorem q1993 : (Jvm.Cond.instanceMethod ({ cls := "RainWheelModel", name := "beginOf", desc := "(II)I" } : Jvm.MethodName)) ∈ lw_all := lw_g (lw_at lw_m8 218 rfl) rfl
theorem q1994 : (Jvm.Cond.code ({ cls := "RainWheelModel", name := "beginOf", desc := "(II)I" } : Jvm.MethodName) prog_19_method_59_code (5 : Nat) (Option.some Jvm.ClassFile.FieldType.int)) ∈ lw_all := lw_g (lw_at lw_m8 219 rfl) rfl
theorem q1995 : (Jvm.Cond.methodLink "RainWheelModel" (396 : Nat) ({ cls := "RainWheelModel", name := "lastsOf", desc := "(III)I" } : Jvm.MethodName)) ∈ lw_all := lw_g (lw_at lw_m8 220 rfl) rfl
theorem q1996 : (Jvm.Cond.privateMethod ({ cls := "RainWheelModel", name := "lastsOf", desc := "(III)I" } : Jvm.MethodName)) ∈ lw_tbl := lw_at lw_m8 221 rfl
theorem q1997 : (Jvm.Cond.instanceMethod ({ cls := "RainWheelModel", name := "lastsOf", desc := "(III)I" } : Jvm.MethodName)) ∈ lw_all := lw_g (lw_at lw_m8 222 rfl) rfl
theorem q1998 : (Jvm.Cond.code ({ cls := "RainWheelModel", name := "lastsOf", desc := "(III)I" } : Jvm.MethodName) prog_19_method_58_code (5 : Nat) (Option.some Jvm.ClassFile.FieldType.int)) ∈ lw_all := lw_g (lw_at lw_m8 223 rfl) rfl
theorem q1999 : (Jvm.Cond.methodLink "RainWheelModel" (384 : Nat) ({ cls := "RainWheelModel", name := "isRain", desc := "(I)Z" } : Jvm.MethodName)) ∈ lw_all := lw_g (lw_at lw_m8 224 rfl) rfl
theorem q2000 : (Jvm.Cond.privateMethod ({ cls := "RainWheelModel", name := "isRain", desc := "(I)Z" } : Jvm.MethodName)) ∈ lw_tbl := lw_at lw_m8 225 rfl
theorem q2001 : (Jvm.Cond.instanceMethod ({ cls := "RainWheelModel", name := "isRain", desc := "(I)Z" } : Jvm.MethodName)) ∈ lw_all := lw_g (lw_at lw_m8 226 rfl) rfl
theorem q2002 : (Jvm.Cond.code ({ cls := "RainWheelModel", name := "isRain", desc := "(I)Z" } : Jvm.MethodName) prog_19_method_52_code (2 : Nat) (Option.some Jvm.ClassFile.FieldType.boolean)) ∈ lw_all := lw_g (lw_at lw_m8 227 rfl) rfl
theorem q2003 : (Jvm.Cond.methodLink "RainWheelModel" (399 : Nat) ({ cls := "RainWheelModel", name := "draws", desc := "()I" } : Jvm.MethodName)) ∈ lw_all := lw_g (lw_at lw_m8 228 rfl) rfl
theorem q2004 : (Jvm.Cond.privateMethod ({ cls := "RainWheelModel", name := "draws", desc := "()I" } : Jvm.MethodName)) ∈ lw_tbl := lw_at lw_m8 229 rfl
theorem q2005 : (Jvm.Cond.instanceMethod ({ cls := "RainWheelModel", name := "draws", desc := "()I" } : Jvm.MethodName)) ∈ lw_all := lw_g (lw_at lw_m8 230 rfl) rfl
theorem q2006 : (Jvm.Cond.code ({ cls := "RainWheelModel", name := "draws", desc := "()I" } : Jvm.MethodName) prog_19_method_108_code (1 : Nat) (Option.some Jvm.ClassFile.FieldType.int)) ∈ lw_all := lw_g (lw_at lw_m8 231 rfl) rfl
theorem q2007 : (Jvm.Cond.constant "RainWheelModel" (498 : Nat) (1103515245 : Int32)) ∈ lw_all := lw_g (lw_at lw_m8 232 rfl) rfl
theorem q2008 : (Jvm.Cond.methodLink "RainWheelModel" (402 : Nat) ({ cls := "RainWheelModel", name := "rainIn", desc := "(II)I" } : Jvm.MethodName)) ∈ lw_all := lw_g (lw_at lw_m8 233 rfl) rfl
theorem q2009 : (Jvm.Cond.privateMethod ({ cls := "RainWheelModel", name := "rainIn", desc := "(II)I" } : Jvm.MethodName)) ∈ lw_tbl := lw_at lw_m8 234 rfl
theorem q2010 : (Jvm.Cond.instanceMethod ({ cls := "RainWheelModel", name := "rainIn", desc := "(II)I" } : Jvm.MethodName)) ∈ lw_all := lw_g (lw_at lw_m8 235 rfl) rfl
theorem q2011 : (Jvm.Cond.code ({ cls := "RainWheelModel", name := "rainIn", desc := "(II)I" } : Jvm.MethodName) prog_19_method_60_code (5 : Nat) (Option.some Jvm.ClassFile.FieldType.int)) ∈ lw_all := lw_g (lw_at lw_m8 236 rfl) rfl
theorem q2013 : (Jvm.Cond.instanceMethod ({ cls := "RainWheelModel", name := "span", desc := "()I" } : Jvm.MethodName)) ∈ lw_all := lw_g (lw_at lw_m8 238 rfl) rfl
theorem q2014 : (Jvm.Cond.selects "RainWheelModel" ({ cls := "RainWheelModel", name := "span", desc := "()I" } : Jvm.MethodName) ({ cls := "RainWheelModel", name := "span", desc := "()I" } : Jvm.MethodName)) ∈ lw_all := lw_g (lw_at lw_m8 239 rfl) rfl
theorem q2015 : (Jvm.Cond.code ({ cls := "RainWheelModel", name := "span", desc := "()I" } : Jvm.MethodName) prog_19_method_64_code (1 : Nat) (Option.some Jvm.ClassFile.FieldType.int)) ∈ lw_all := lw_g (lw_at lw_m9 0 rfl) rfl
theorem q2017 : (Jvm.Cond.instanceMethod ({ cls := "RainWheelModel", name := "wet", desc := "(I)I" } : Jvm.MethodName)) ∈ lw_all := lw_g (lw_at lw_m9 2 rfl) rfl
theorem q2018 : (Jvm.Cond.selects "RainWheelModel" ({ cls := "RainWheelModel", name := "wet", desc := "(I)I" } : Jvm.MethodName) ({ cls := "RainWheelModel", name := "wet", desc := "(I)I" } : Jvm.MethodName)) ∈ lw_all := lw_g (lw_at lw_m9 3 rfl) rfl
theorem q2019 : (Jvm.Cond.code ({ cls := "RainWheelModel", name := "wet", desc := "(I)I" } : Jvm.MethodName) prog_19_method_65_code (2 : Nat) (Option.some Jvm.ClassFile.FieldType.int)) ∈ lw_all := lw_g (lw_at lw_m9 4 rfl) rfl
theorem q2021 : (Jvm.Cond.instanceMethod ({ cls := "RainWheelModel", name := "idle", desc := "(I)I" } : Jvm.MethodName)) ∈ lw_all := lw_g (lw_at lw_m9 6 rfl) rfl
theorem q2022 : (Jvm.Cond.selects "RainWheelModel" ({ cls := "RainWheelModel", name := "idle", desc := "(I)I" } : Jvm.MethodName) ({ cls := "RainWheelModel", name := "idle", desc := "(I)I" } : Jvm.MethodName)) ∈ lw_all := lw_g (lw_at lw_m9 7 rfl) rfl
theorem q2023 : (Jvm.Cond.code ({ cls := "RainWheelModel", name := "idle", desc := "(I)I" } : Jvm.MethodName) prog_19_method_66_code (2 : Nat) (Option.some Jvm.ClassFile.FieldType.int)) ∈ lw_all := lw_g (lw_at lw_m9 8 rfl) rfl
theorem q2025 : (Jvm.Cond.instanceMethod ({ cls := "RainWheelModel", name := "umbrella", desc := "()I" } : Jvm.MethodName)) ∈ lw_all := lw_g (lw_at lw_m9 10 rfl) rfl
theorem q2026 : (Jvm.Cond.selects "RainWheelModel" ({ cls := "RainWheelModel", name := "umbrella", desc := "()I" } : Jvm.MethodName) ({ cls := "RainWheelModel", name := "umbrella", desc := "()I" } : Jvm.MethodName)) ∈ lw_all := lw_g (lw_at lw_m9 11 rfl) rfl
theorem q2027 : (Jvm.Cond.code ({ cls := "RainWheelModel", name := "umbrella", desc := "()I" } : Jvm.MethodName) prog_19_method_67_code (4 : Nat) (Option.some Jvm.ClassFile.FieldType.int)) ∈ lw_all := lw_g (lw_at lw_m9 12 rfl) rfl
theorem q2029 : (Jvm.Cond.instanceMethod ({ cls := "RainWheelModel", name := "slack", desc := "(I)I" } : Jvm.MethodName)) ∈ lw_all := lw_g (lw_at lw_m9 14 rfl) rfl
theorem q2030 : (Jvm.Cond.selects "RainWheelModel" ({ cls := "RainWheelModel", name := "slack", desc := "(I)I" } : Jvm.MethodName) ({ cls := "RainWheelModel", name := "slack", desc := "(I)I" } : Jvm.MethodName)) ∈ lw_all := lw_g (lw_at lw_m9 15 rfl) rfl
theorem q2031 : (Jvm.Cond.code ({ cls := "RainWheelModel", name := "slack", desc := "(I)I" } : Jvm.MethodName) prog_19_method_69_code (2 : Nat) (Option.some Jvm.ClassFile.FieldType.int)) ∈ lw_all := lw_g (lw_at lw_m9 16 rfl) rfl
theorem q2032 : (Jvm.Cond.methodLink "RainWheelModel" (412 : Nat) ({ cls := "RainWheelModel", name := "slackOf", desc := "(I)I" } : Jvm.MethodName)) ∈ lw_all := lw_g (lw_at lw_m9 17 rfl) rfl
theorem q2033 : (Jvm.Cond.privateMethod ({ cls := "RainWheelModel", name := "slackOf", desc := "(I)I" } : Jvm.MethodName)) ∈ lw_tbl := lw_at lw_m9 18 rfl
theorem q2034 : (Jvm.Cond.instanceMethod ({ cls := "RainWheelModel", name := "slackOf", desc := "(I)I" } : Jvm.MethodName)) ∈ lw_all := lw_g (lw_at lw_m9 19 rfl) rfl
theorem q2035 : (Jvm.Cond.code ({ cls := "RainWheelModel", name := "slackOf", desc := "(I)I" } : Jvm.MethodName) prog_19_method_68_code (4 : Nat) (Option.some Jvm.ClassFile.FieldType.int)) ∈ lw_all := lw_g (lw_at lw_m9 20 rfl) rfl
theorem q2037 : (Jvm.Cond.instanceMethod ({ cls := "RainWheelModel", name := "urgent", desc := "()I" } : Jvm.MethodName)) ∈ lw_all := lw_g (lw_at lw_m9 22 rfl) rfl
theorem q2038 : (Jvm.Cond.selects "RainWheelModel" ({ cls := "RainWheelModel", name := "urgent", desc := "()I" } : Jvm.MethodName) ({ cls := "RainWheelModel", name := "urgent", desc := "()I" } : Jvm.MethodName)) ∈ lw_all := lw_g (lw_at lw_m9 23 rfl) rfl
theorem q2039 : (Jvm.Cond.code ({ cls := "RainWheelModel", name := "urgent", desc := "()I" } : Jvm.MethodName) prog_19_method_70_code (3 : Nat) (Option.some Jvm.ClassFile.FieldType.int)) ∈ lw_all := lw_g (lw_at lw_m9 24 rfl) rfl
theorem q2041 : (Jvm.Cond.instanceMethod ({ cls := "RainWheelModel", name := "ahead", desc := "(I)I" } : Jvm.MethodName)) ∈ lw_all := lw_g (lw_at lw_m9 26 rfl) rfl
theorem q2042 : (Jvm.Cond.selects "RainWheelModel" ({ cls := "RainWheelModel", name := "ahead", desc := "(I)I" } : Jvm.MethodName) ({ cls := "RainWheelModel", name := "ahead", desc := "(I)I" } : Jvm.MethodName)) ∈ lw_all := lw_g (lw_at lw_m9 27 rfl) rfl
theorem q2043 : (Jvm.Cond.code ({ cls := "RainWheelModel", name := "ahead", desc := "(I)I" } : Jvm.MethodName) prog_19_method_71_code (4 : Nat) (Option.some Jvm.ClassFile.FieldType.int)) ∈ lw_all := lw_g (lw_at lw_m9 28 rfl) rfl
theorem q2045 : (Jvm.Cond.instanceMethod ({ cls := "RainWheelModel", name := "chain", desc := "(I)I" } : Jvm.MethodName)) ∈ lw_all := lw_g (lw_at lw_m9 30 rfl) rfl
theorem q2046 : (Jvm.Cond.selects "RainWheelModel" ({ cls := "RainWheelModel", name := "chain", desc := "(I)I" } : Jvm.MethodName) ({ cls := "RainWheelModel", name := "chain", desc := "(I)I" } : Jvm.MethodName)) ∈ lw_all := lw_g (lw_at lw_m9 31 rfl) rfl
theorem q2047 : (Jvm.Cond.code ({ cls := "RainWheelModel", name := "chain", desc := "(I)I" } : Jvm.MethodName) prog_19_method_72_code (5 : Nat) (Option.some Jvm.ClassFile.FieldType.int)) ∈ lw_all := lw_g (lw_at lw_m9 32 rfl) rfl
theorem q2049 : (Jvm.Cond.instanceMethod ({ cls := "RainWheelModel", name := "soonest", desc := "(I)I" } : Jvm.MethodName)) ∈ lw_all := lw_g (lw_at lw_m9 34 rfl) rfl
theorem q2050 : (Jvm.Cond.selects "RainWheelModel" ({ cls := "RainWheelModel", name := "soonest", desc := "(I)I" } : Jvm.MethodName) ({ cls := "RainWheelModel", name := "soonest", desc := "(I)I" } : Jvm.MethodName)) ∈ lw_all := lw_g (lw_at lw_m9 35 rfl) rfl
theorem q2051 : (Jvm.Cond.code ({ cls := "RainWheelModel", name := "soonest", desc := "(I)I" } : Jvm.MethodName) prog_19_method_75_code (2 : Nat) (Option.some Jvm.ClassFile.FieldType.int)) ∈ lw_all := lw_g (lw_at lw_m9 36 rfl) rfl
theorem q2052 : (Jvm.Cond.methodLink "RainWheelModel" (426 : Nat) ({ cls := "RainWheelModel", name := "findSoonest", desc := "()V" } : Jvm.MethodName)) ∈ lw_all := lw_g (lw_at lw_m9 37 rfl) rfl
theorem q2053 : (Jvm.Cond.privateMethod ({ cls := "RainWheelModel", name := "findSoonest", desc := "()V" } : Jvm.MethodName)) ∈ lw_tbl := lw_at lw_m9 38 rfl
theorem q2054 : (Jvm.Cond.instanceMethod ({ cls := "RainWheelModel", name := "findSoonest", desc := "()V" } : Jvm.MethodName)) ∈ lw_all := lw_g (lw_at lw_m9 39 rfl) rfl
theorem q2055 : (Jvm.Cond.code ({ cls := "RainWheelModel", name := "findSoonest", desc := "()V" } : Jvm.MethodName) prog_19_method_74_code (2 : Nat) (Option.none : Option Jvm.ClassFile.FieldType)) ∈ lw_all := lw_g (lw_at lw_m9 40 rfl) rfl
theorem q2056 : (Jvm.Cond.constant "RainWheelModel" (425 : Nat) (1000000 : Int32)) ∈ lw_all := lw_g (lw_at lw_m9 41 rfl) rfl
theorem q2057 : (Jvm.Cond.methodLink "RainWheelModel" (421 : Nat) ({ cls := "RainWheelModel", name := "plansOn", desc := "(IIII)V" } : Jvm.MethodName)) ∈ lw_all := lw_g (lw_at lw_m9 42 rfl) rfl
theorem q2058 : (Jvm.Cond.privateMethod ({ cls := "RainWheelModel", name := "plansOn", desc := "(IIII)V" } : Jvm.MethodName)) ∈ lw_tbl := lw_at lw_m9 43 rfl
theorem q2059 : (Jvm.Cond.instanceMethod ({ cls := "RainWheelModel", name := "plansOn", desc := "(IIII)V" } : Jvm.MethodName)) ∈ lw_all := lw_g (lw_at lw_m9 44 rfl) rfl
theorem q2060 : (Jvm.Cond.code ({ cls := "RainWheelModel", name := "plansOn", desc := "(IIII)V" } : Jvm.MethodName) prog_19_method_73_code (11 : Nat) (Option.none : Option Jvm.ClassFile.FieldType)) ∈ lw_all := lw_g (lw_at lw_m9 45 rfl) rfl
theorem q2062 : (Jvm.Cond.instanceMethod ({ cls := "RainWheelModel", name := "first", desc := "(I)I" } : Jvm.MethodName)) ∈ lw_all := lw_g (lw_at lw_m9 47 rfl) rfl
theorem q2063 : (Jvm.Cond.selects "RainWheelModel" ({ cls := "RainWheelModel", name := "first", desc := "(I)I" } : Jvm.MethodName) ({ cls := "RainWheelModel", name := "first", desc := "(I)I" } : Jvm.MethodName)) ∈ lw_all := lw_g (lw_at lw_m9 48 rfl) rfl
theorem q2064 : (Jvm.Cond.code ({ cls := "RainWheelModel", name := "first", desc := "(I)I" } : Jvm.MethodName) prog_19_method_76_code (2 : Nat) (Option.some Jvm.ClassFile.FieldType.int)) ∈ lw_all := lw_g (lw_at lw_m9 49 rfl) rfl
theorem q2066 : (Jvm.Cond.instanceMethod ({ cls := "RainWheelModel", name := "sinks", desc := "(III)I" } : Jvm.MethodName)) ∈ lw_all := lw_g (lw_at lw_m9 51 rfl) rfl
theorem q2067 : (Jvm.Cond.selects "RainWheelModel" ({ cls := "RainWheelModel", name := "sinks", desc := "(III)I" } : Jvm.MethodName) ({ cls := "RainWheelModel", name := "sinks", desc := "(III)I" } : Jvm.MethodName)) ∈ lw_all := lw_g (lw_at lw_m9 52 rfl) rfl
theorem q2068 : (Jvm.Cond.code ({ cls := "RainWheelModel", name := "sinks", desc := "(III)I" } : Jvm.MethodName) prog_19_method_81_code (4 : Nat) (Option.some Jvm.ClassFile.FieldType.int)) ∈ lw_all := lw_g (lw_at lw_m9 53 rfl) rfl
theorem q2069 : (Jvm.Cond.methodLink "RainWheelModel" (432 : Nat) ({ cls := "RainWheelModel", name := "isYard", desc := "(I)Z" } : Jvm.MethodName)) ∈ lw_all := lw_g (lw_at lw_m9 54 rfl) rfl
theorem q2070 : (Jvm.Cond.static ({ cls := "RainWheelModel", name := "isYard", desc := "(I)Z" } : Jvm.MethodName)) ∈ lw_all := lw_g (lw_at lw_m9 55 rfl) rfl
theorem q2071 : (Jvm.Cond.code ({ cls := "RainWheelModel", name := "isYard", desc := "(I)Z" } : Jvm.MethodName) prog_19_method_80_code (1 : Nat) (Option.some Jvm.ClassFile.FieldType.boolean)) ∈ lw_all := lw_g (lw_at lw_m9 56 rfl) rfl
theorem q2072 : (Jvm.Cond.methodLink "RainWheelModel" (435 : Nat) ({ cls := "RainWheelModel", name := "isMinute", desc := "(I)Z" } : Jvm.MethodName)) ∈ lw_all := lw_g (lw_at lw_m9 57 rfl) rfl
theorem q2073 : (Jvm.Cond.static ({ cls := "RainWheelModel", name := "isMinute", desc := "(I)Z" } : Jvm.MethodName)) ∈ lw_all := lw_g (lw_at lw_m9 58 rfl) rfl
theorem q2074 : (Jvm.Cond.code ({ cls := "RainWheelModel", name := "isMinute", desc := "(I)Z" } : Jvm.MethodName) prog_19_method_79_code (1 : Nat) (Option.some Jvm.ClassFile.FieldType.boolean)) ∈ lw_all := lw_g (lw_at lw_m9 59 rfl) rfl
theorem q2075 : (Jvm.Cond.methodLink "RainWheelModel" (438 : Nat) ({ cls := "RainWheelModel", name := "sinkOf", desc := "(III)I" } : Jvm.MethodName)) ∈ lw_all := lw_g (lw_at lw_m9 60 rfl) rfl
theorem q2076 : (Jvm.Cond.privateMethod ({ cls := "RainWheelModel", name := "sinkOf", desc := "(III)I" } : Jvm.MethodName)) ∈ lw_tbl := lw_at lw_m9 61 rfl
theorem q2077 : (Jvm.Cond.instanceMethod ({ cls := "RainWheelModel", name := "sinkOf", desc := "(III)I" } : Jvm.MethodName)) ∈ lw_all := lw_g (lw_at lw_m9 62 rfl) rfl
theorem q2078 : (Jvm.Cond.code ({ cls := "RainWheelModel", name := "sinkOf", desc := "(III)I" } : Jvm.MethodName) prog_19_method_78_code (5 : Nat) (Option.some Jvm.ClassFile.FieldType.int)) ∈ lw_all := lw_g (lw_at lw_m9 63 rfl) rfl
theorem q2079 : (Jvm.Cond.methodLink "RainWheelModel" (429 : Nat) ({ cls := "RainWheelModel", name := "broad", desc := "(I)I" } : Jvm.MethodName)) ∈ lw_all := lw_g (lw_at lw_m9 64 rfl) rfl
theorem q2080 : (Jvm.Cond.privateMethod ({ cls := "RainWheelModel", name := "broad", desc := "(I)I" } : Jvm.MethodName)) ∈ lw_tbl := lw_at lw_m9 65 rfl
theorem q2081 : (Jvm.Cond.instanceMethod ({ cls := "RainWheelModel", name := "broad", desc := "(I)I" } : Jvm.MethodName)) ∈ lw_all := lw_g (lw_at lw_m9 66 rfl) rfl
theorem q2082 : (Jvm.Cond.code ({ cls := "RainWheelModel", name := "broad", desc := "(I)I" } : Jvm.MethodName) prog_19_method_77_code (4 : Nat) (Option.some Jvm.ClassFile.FieldType.int)) ∈ lw_all := lw_g (lw_at lw_m9 67 rfl) rfl
theorem q2084 : (Jvm.Cond.instanceMethod ({ cls := "RainWheelModel", name := "under", desc := "(III)I" } : Jvm.MethodName)) ∈ lw_all := lw_g (lw_at lw_m9 69 rfl) rfl
theorem q2085 : (Jvm.Cond.selects "RainWheelModel" ({ cls := "RainWheelModel", name := "under", desc := "(III)I" } : Jvm.MethodName) ({ cls := "RainWheelModel", name := "under", desc := "(III)I" } : Jvm.MethodName)) ∈ lw_all := lw_g (lw_at lw_m9 70 rfl) rfl
theorem q2086 : (Jvm.Cond.code ({ cls := "RainWheelModel", name := "under", desc := "(III)I" } : Jvm.MethodName) prog_19_method_82_code (6 : Nat) (Option.some Jvm.ClassFile.FieldType.int)) ∈ lw_all := lw_g (lw_at lw_m9 71 rfl) rfl
theorem q2088 : (Jvm.Cond.instanceMethod ({ cls := "RainWheelModel", name := "push", desc := "(IIII)I" } : Jvm.MethodName)) ∈ lw_all := lw_g (lw_at lw_m9 73 rfl) rfl
theorem q2089 : (Jvm.Cond.selects "RainWheelModel" ({ cls := "RainWheelModel", name := "push", desc := "(IIII)I" } : Jvm.MethodName) ({ cls := "RainWheelModel", name := "push", desc := "(IIII)I" } : Jvm.MethodName)) ∈ lw_all := lw_g (lw_at lw_m9 74 rfl) rfl
theorem q2090 : (Jvm.Cond.code ({ cls := "RainWheelModel", name := "push", desc := "(IIII)I" } : Jvm.MethodName) prog_19_method_83_code (9 : Nat) (Option.some Jvm.ClassFile.FieldType.int)) ∈ lw_all := lw_g (lw_at lw_m9 75 rfl) rfl
theorem q2092 : (Jvm.Cond.instanceMethod ({ cls := "RainWheelModel", name := "tries", desc := "(IIII)J" } : Jvm.MethodName)) ∈ lw_all := lw_g (lw_at lw_m9 77 rfl) rfl
theorem q2093 : (Jvm.Cond.selects "RainWheelModel" ({ cls := "RainWheelModel", name := "tries", desc := "(IIII)J" } : Jvm.MethodName) ({ cls := "RainWheelModel", name := "tries", desc := "(IIII)J" } : Jvm.MethodName)) ∈ lw_all := lw_g (lw_at lw_m9 78 rfl) rfl
theorem q2094 : (Jvm.Cond.code ({ cls := "RainWheelModel", name := "tries", desc := "(IIII)J" } : Jvm.MethodName) prog_19_method_88_code (5 : Nat) (Option.some Jvm.ClassFile.FieldType.long)) ∈ lw_all := lw_g (lw_at lw_m9 79 rfl) rfl
theorem q2095 : (Jvm.Cond.methodLink "RainWheelModel" (448 : Nat) ({ cls := "RainWheelModel", name := "isNut", desc := "(II)Z" } : Jvm.MethodName)) ∈ lw_all := lw_g (lw_at lw_m9 80 rfl) rfl
theorem q2096 : (Jvm.Cond.privateMethod ({ cls := "RainWheelModel", name := "isNut", desc := "(II)Z" } : Jvm.MethodName)) ∈ lw_tbl := lw_at lw_m9 81 rfl
theorem q2097 : (Jvm.Cond.instanceMethod ({ cls := "RainWheelModel", name := "isNut", desc := "(II)Z" } : Jvm.MethodName)) ∈ lw_all := lw_g (lw_at lw_m9 82 rfl) rfl
theorem q2098 : (Jvm.Cond.code ({ cls := "RainWheelModel", name := "isNut", desc := "(II)Z" } : Jvm.MethodName) prog_19_method_47_code (3 : Nat) (Option.some Jvm.ClassFile.FieldType.boolean)) ∈ lw_all := lw_g (lw_at lw_m9 83 rfl) rfl
theorem q2099 : (Jvm.Cond.constantLong "RainWheelModel" (451 : Nat) (16 : Int64)) ∈ lw_all := lw_g (lw_at lw_m9 84 rfl) rfl
theorem q2100 : (Jvm.Cond.methodLink "RainWheelModel" (444 : Nat) ({ cls := "RainWheelModel", name := "power", desc := "(JI)J" } : Jvm.MethodName)) ∈ lw_all := lw_g (lw_at lw_m9 85 rfl) rfl
theorem q2101 : (Jvm.Cond.static ({ cls := "RainWheelModel", name := "power", desc := "(JI)J" } : Jvm.MethodName)) ∈ lw_all := lw_g (lw_at lw_m9 86 rfl) rfl
theorem q2102 : (Jvm.Cond.code ({ cls := "RainWheelModel", name := "power", desc := "(JI)J" } : Jvm.MethodName) prog_19_method_85_code (6 : Nat) (Option.some Jvm.ClassFile.FieldType.long)) ∈ lw_all := lw_g (lw_at lw_m9 87 rfl) rfl
theorem q2103 : (Jvm.Cond.methodLink "RainWheelModel" (453 : Nat) ({ cls := "RainWheelModel", name := "stuck", desc := "(III)J" } : Jvm.MethodName)) ∈ lw_all := lw_g (lw_at lw_m9 88 rfl) rfl
theorem q2104 : (Jvm.Cond.privateMethod ({ cls := "RainWheelModel", name := "stuck", desc := "(III)J" } : Jvm.MethodName)) ∈ lw_tbl := lw_at lw_m9 89 rfl
theorem q2105 : (Jvm.Cond.instanceMethod ({ cls := "RainWheelModel", name := "stuck", desc := "(III)J" } : Jvm.MethodName)) ∈ lw_all := lw_g (lw_at lw_m9 90 rfl) rfl
theorem q2106 : (Jvm.Cond.code ({ cls := "RainWheelModel", name := "stuck", desc := "(III)J" } : Jvm.MethodName) prog_19_method_87_code (4 : Nat) (Option.some Jvm.ClassFile.FieldType.long)) ∈ lw_all := lw_g (lw_at lw_m9 91 rfl) rfl
theorem q2107 : (Jvm.Cond.methodLink "RainWheelModel" (441 : Nat) ({ cls := "RainWheelModel", name := "easeOf", desc := "(II)I" } : Jvm.MethodName)) ∈ lw_all := lw_g (lw_at lw_m9 92 rfl) rfl
theorem q2108 : (Jvm.Cond.privateMethod ({ cls := "RainWheelModel", name := "easeOf", desc := "(II)I" } : Jvm.MethodName)) ∈ lw_tbl := lw_at lw_m9 93 rfl
theorem q2109 : (Jvm.Cond.instanceMethod ({ cls := "RainWheelModel", name := "easeOf", desc := "(II)I" } : Jvm.MethodName)) ∈ lw_all := lw_g (lw_at lw_m9 94 rfl) rfl
theorem q2110 : (Jvm.Cond.code ({ cls := "RainWheelModel", name := "easeOf", desc := "(II)I" } : Jvm.MethodName) prog_19_method_86_code (4 : Nat) (Option.some Jvm.ClassFile.FieldType.int)) ∈ lw_all := lw_g (lw_at lw_m9 95 rfl) rfl
theorem q2111 : (Jvm.Cond.methodLink "RainWheelModel" (457 : Nat) ({ cls := "RainWheelModel", name := "least", desc := "(JJI)J" } : Jvm.MethodName)) ∈ lw_all := lw_g (lw_at lw_m9 96 rfl) rfl
theorem q2112 : (Jvm.Cond.static ({ cls := "RainWheelModel", name := "least", desc := "(JJI)J" } : Jvm.MethodName)) ∈ lw_all := lw_g (lw_at lw_m9 97 rfl) rfl
theorem q2113 : (Jvm.Cond.code ({ cls := "RainWheelModel", name := "least", desc := "(JJI)J" } : Jvm.MethodName) prog_19_method_84_code (11 : Nat) (Option.some Jvm.ClassFile.FieldType.long)) ∈ lw_all := lw_g (lw_at lw_m9 98 rfl) rfl
theorem q2115 : (Jvm.Cond.instanceMethod ({ cls := "RainWheelModel", name := "half", desc := "(II)I" } : Jvm.MethodName)) ∈ lw_all := lw_g (lw_at lw_m9 100 rfl) rfl
theorem q2116 : (Jvm.Cond.selects "RainWheelModel" ({ cls := "RainWheelModel", name := "half", desc := "(II)I" } : Jvm.MethodName) ({ cls := "RainWheelModel", name := "half", desc := "(II)I" } : Jvm.MethodName)) ∈ lw_all := lw_g (lw_at lw_m9 101 rfl) rfl
theorem q2117 : (Jvm.Cond.code ({ cls := "RainWheelModel", name := "half", desc := "(II)I" } : Jvm.MethodName) prog_19_method_89_code (4 : Nat) (Option.some Jvm.ClassFile.FieldType.int)) ∈ lw_all := lw_g (lw_at lw_m9 102 rfl) rfl
theorem q2118 : (Jvm.Cond.constantLong "RainWheelModel" (460 : Nat) (2 : Int64)) ∈ lw_all := lw_g (lw_at lw_m9 103 rfl) rfl
theorem q2120 : (Jvm.Cond.instanceMethod ({ cls := "RainWheelModel", name := "easiest", desc := "(I)I" } : Jvm.MethodName)) ∈ lw_all := lw_g (lw_at lw_m9 105 rfl) rfl
theorem q2121 : (Jvm.Cond.selects "RainWheelModel" ({ cls := "RainWheelModel", name := "easiest", desc := "(I)I" } : Jvm.MethodName) ({ cls := "RainWheelModel", name := "easiest", desc := "(I)I" } : Jvm.MethodName)) ∈ lw_all := lw_g (lw_at lw_m9 106 rfl) rfl
theorem q2122 : (Jvm.Cond.code ({ cls := "RainWheelModel", name := "easiest", desc := "(I)I" } : Jvm.MethodName) prog_19_method_90_code (4 : Nat) (Option.some Jvm.ClassFile.FieldType.int)) ∈ lw_all := lw_g (lw_at lw_m9 107 rfl) rfl
theorem q2124 : (Jvm.Cond.instanceMethod ({ cls := "RainWheelModel", name := "waits", desc := "(IIII)J" } : Jvm.MethodName)) ∈ lw_all := lw_g (lw_at lw_m9 109 rfl) rfl
theorem q2125 : (Jvm.Cond.selects "RainWheelModel" ({ cls := "RainWheelModel", name := "waits", desc := "(IIII)J" } : Jvm.MethodName) ({ cls := "RainWheelModel", name := "waits", desc := "(IIII)J" } : Jvm.MethodName)) ∈ lw_all := lw_g (lw_at lw_m9 110 rfl) rfl
theorem q2126 : (Jvm.Cond.code ({ cls := "RainWheelModel", name := "waits", desc := "(IIII)J" } : Jvm.MethodName) prog_19_method_92_code (5 : Nat) (Option.some Jvm.ClassFile.FieldType.long)) ∈ lw_all := lw_g (lw_at lw_m9 111 rfl) rfl
theorem q2127 : (Jvm.Cond.methodLink "RainWheelModel" (462 : Nat) ({ cls := "RainWheelModel", name := "meanOf", desc := "(III)J" } : Jvm.MethodName)) ∈ lw_all := lw_g (lw_at lw_m9 112 rfl) rfl
theorem q2128 : (Jvm.Cond.privateMethod ({ cls := "RainWheelModel", name := "meanOf", desc := "(III)J" } : Jvm.MethodName)) ∈ lw_tbl := lw_at lw_m9 113 rfl
theorem q2129 : (Jvm.Cond.instanceMethod ({ cls := "RainWheelModel", name := "meanOf", desc := "(III)J" } : Jvm.MethodName)) ∈ lw_all := lw_g (lw_at lw_m9 114 rfl) rfl
theorem q2130 : (Jvm.Cond.code ({ cls := "RainWheelModel", name := "meanOf", desc := "(III)J" } : Jvm.MethodName) prog_19_method_91_code (10 : Nat) (Option.some Jvm.ClassFile.FieldType.long)) ∈ lw_all := lw_g (lw_at lw_m9 115 rfl) rfl
theorem q2132 : (Jvm.Cond.instanceMethod ({ cls := "RainWheelModel", name := "await", desc := "(II)I" } : Jvm.MethodName)) ∈ lw_all := lw_g (lw_at lw_m9 117 rfl) rfl
theorem q2133 : (Jvm.Cond.selects "RainWheelModel" ({ cls := "RainWheelModel", name := "await", desc := "(II)I" } : Jvm.MethodName) ({ cls := "RainWheelModel", name := "await", desc := "(II)I" } : Jvm.MethodName)) ∈ lw_all := lw_g (lw_at lw_m9 118 rfl) rfl
theorem q2134 : (Jvm.Cond.code ({ cls := "RainWheelModel", name := "await", desc := "(II)I" } : Jvm.MethodName) prog_19_method_93_code (5 : Nat) (Option.some Jvm.ClassFile.FieldType.int)) ∈ lw_all := lw_g (lw_at lw_m9 119 rfl) rfl
theorem q2136 : (Jvm.Cond.instanceMethod ({ cls := "RainWheelModel", name := "cross", desc := "(II)I" } : Jvm.MethodName)) ∈ lw_all := lw_g (lw_at lw_m9 121 rfl) rfl
theorem q2137 : (Jvm.Cond.selects "RainWheelModel" ({ cls := "RainWheelModel", name := "cross", desc := "(II)I" } : Jvm.MethodName) ({ cls := "RainWheelModel", name := "cross", desc := "(II)I" } : Jvm.MethodName)) ∈ lw_all := lw_g (lw_at lw_m9 122 rfl) rfl
theorem q2138 : (Jvm.Cond.code ({ cls := "RainWheelModel", name := "cross", desc := "(II)I" } : Jvm.MethodName) prog_19_method_96_code (3 : Nat) (Option.some Jvm.ClassFile.FieldType.int)) ∈ lw_all := lw_g (lw_at lw_m9 123 rfl) rfl
theorem q2139 : (Jvm.Cond.methodLink "RainWheelModel" (474 : Nat) ({ cls := "RainWheelModel", name := "crossOn", desc := "(IIIII)V" } : Jvm.MethodName)) ∈ lw_all := lw_g (lw_at lw_m9 124 rfl) rfl
theorem q2140 : (Jvm.Cond.privateMethod ({ cls := "RainWheelModel", name := "crossOn", desc := "(IIIII)V" } : Jvm.MethodName)) ∈ lw_tbl := lw_at lw_m9 125 rfl
theorem q2141 : (Jvm.Cond.instanceMethod ({ cls := "RainWheelModel", name := "crossOn", desc := "(IIIII)V" } : Jvm.MethodName)) ∈ lw_all := lw_g (lw_at lw_m9 126 rfl) rfl
theorem q2142 : (Jvm.Cond.code ({ cls := "RainWheelModel", name := "crossOn", desc := "(IIIII)V" } : Jvm.MethodName) prog_19_method_95_code (7 : Nat) (Option.none : Option Jvm.ClassFile.FieldType)) ∈ lw_all := lw_g (lw_at lw_m9 127 rfl) rfl
theorem q2143 : (Jvm.Cond.methodLink "RainWheelModel" (471 : Nat) ({ cls := "RainWheelModel", name := "crookedBy", desc := "(III)I" } : Jvm.MethodName)) ∈ lw_all := lw_g (lw_at lw_m9 128 rfl) rfl
theorem q2144 : (Jvm.Cond.privateMethod ({ cls := "RainWheelModel", name := "crookedBy", desc := "(III)I" } : Jvm.MethodName)) ∈ lw_tbl := lw_at lw_m9 129 rfl
theorem q2145 : (Jvm.Cond.instanceMethod ({ cls := "RainWheelModel", name := "crookedBy", desc := "(III)I" } : Jvm.MethodName)) ∈ lw_all := lw_g (lw_at lw_m9 130 rfl) rfl
theorem q2146 : (Jvm.Cond.code ({ cls := "RainWheelModel", name := "crookedBy", desc := "(III)I" } : Jvm.MethodName) prog_19_method_94_code (6 : Nat) (Option.some Jvm.ClassFile.FieldType.int)) ∈ lw_all := lw_g (lw_at lw_m9 131 rfl) rfl
theorem q2148 : (Jvm.Cond.instanceMethod ({ cls := "RainWheelModel", name := "crooked", desc := "(I)I" } : Jvm.MethodName)) ∈ lw_all := lw_g (lw_at lw_m9 133 rfl) rfl
theorem q2149 : (Jvm.Cond.selects "RainWheelModel" ({ cls := "RainWheelModel", name := "crooked", desc := "(I)I" } : Jvm.MethodName) ({ cls := "RainWheelModel", name := "crooked", desc := "(I)I" } : Jvm.MethodName)) ∈ lw_all := lw_g (lw_at lw_m9 134 rfl) rfl
theorem q2150 : (Jvm.Cond.code ({ cls := "RainWheelModel", name := "crooked", desc := "(I)I" } : Jvm.MethodName) prog_19_method_97_code (7 : Nat) (Option.some Jvm.ClassFile.FieldType.int)) ∈ lw_all := lw_g (lw_at lw_m9 135 rfl) rfl
theorem q2151 : (Jvm.Cond.constant "RainWheelModel" (478 : Nat) (999999 : Int32)) ∈ lw_all := lw_g (lw_at lw_m9 136 rfl) rfl
theorem q2153 : (Jvm.Cond.instanceMethod ({ cls := "RainWheelModel", name := "share", desc := "(I)I" } : Jvm.MethodName)) ∈ lw_all := lw_g (lw_at lw_m9 138 rfl) rfl
theorem q2154 : (Jvm.Cond.selects "RainWheelModel" ({ cls := "RainWheelModel", name := "share", desc := "(I)I" } : Jvm.MethodName) ({ cls := "RainWheelModel", name := "share", desc := "(I)I" } : Jvm.MethodName)) ∈ lw_all := lw_g (lw_at lw_m9 139 rfl) rfl
theorem q2155 : (Jvm.Cond.code ({ cls := "RainWheelModel", name := "share", desc := "(I)I" } : Jvm.MethodName) prog_19_method_98_code (2 : Nat) (Option.some Jvm.ClassFile.FieldType.int)) ∈ lw_all := lw_g (lw_at lw_m9 140 rfl) rfl
theorem q2157 : (Jvm.Cond.instanceMethod ({ cls := "RainWheelModel", name := "drive", desc := "(I)I" } : Jvm.MethodName)) ∈ lw_all := lw_g (lw_at lw_m9 142 rfl) rfl
theorem q2158 : (Jvm.Cond.selects "RainWheelModel" ({ cls := "RainWheelModel", name := "drive", desc := "(I)I" } : Jvm.MethodName) ({ cls := "RainWheelModel", name := "drive", desc := "(I)I" } : Jvm.MethodName)) ∈ lw_all := lw_g (lw_at lw_m9 143 rfl) rfl
theorem q2159 : (Jvm.Cond.code ({ cls := "RainWheelModel", name := "drive", desc := "(I)I" } : Jvm.MethodName) prog_19_method_101_code (2 : Nat) (Option.some Jvm.ClassFile.FieldType.int)) ∈ lw_all := lw_g (lw_at lw_m9 144 rfl) rfl
theorem q2160 : (Jvm.Cond.methodLink "RainWheelModel" (482 : Nat) ({ cls := "RainWheelModel", name := "isDrive", desc := "(I)Z" } : Jvm.MethodName)) ∈ lw_all := lw_g (lw_at lw_m9 145 rfl) rfl
theorem q2161 : (Jvm.Cond.privateMethod ({ cls := "RainWheelModel", name := "isDrive", desc := "(I)Z" } : Jvm.MethodName)) ∈ lw_tbl := lw_at lw_m9 146 rfl
theorem q2162 : (Jvm.Cond.instanceMethod ({ cls := "RainWheelModel", name := "isDrive", desc := "(I)Z" } : Jvm.MethodName)) ∈ lw_all := lw_g (lw_at lw_m9 147 rfl) rfl
theorem q2163 : (Jvm.Cond.code ({ cls := "RainWheelModel", name := "isDrive", desc := "(I)Z" } : Jvm.MethodName) prog_19_method_100_code (2 : Nat) (Option.some Jvm.ClassFile.FieldType.boolean)) ∈ lw_all := lw_g (lw_at lw_m9 148 rfl) rfl
theorem q2164 : (Jvm.Cond.methodLink "RainWheelModel" (485 : Nat) ({ cls := "RainWheelModel", name := "findDrive", desc := "(I)I" } : Jvm.MethodName)) ∈ lw_all := lw_g (lw_at lw_m9 149 rfl) rfl
theorem q2165 : (Jvm.Cond.privateMethod ({ cls := "RainWheelModel", name := "findDrive", desc := "(I)I" } : Jvm.MethodName)) ∈ lw_tbl := lw_at lw_m9 150 rfl
theorem q2166 : (Jvm.Cond.instanceMethod ({ cls := "RainWheelModel", name := "findDrive", desc := "(I)I" } : Jvm.MethodName)) ∈ lw_all := lw_g (lw_at lw_m9 151 rfl) rfl
theorem q2167 : (Jvm.Cond.code ({ cls := "RainWheelModel", name := "findDrive", desc := "(I)I" } : Jvm.MethodName) prog_19_method_99_code (10 : Nat) (Option.some Jvm.ClassFile.FieldType.int)) ∈ lw_all := lw_g (lw_at lw_m9 152 rfl) rfl
theorem q2168 : (Jvm.Cond.constant "RainWheelModel" (481 : Nat) (2147483647 : Int32)) ∈ lw_all := lw_g (lw_at lw_m9 153 rfl) rfl
theorem q2170 : (Jvm.Cond.instanceMethod ({ cls := "RainWheelModel", name := "pumps", desc := "(I)I" } : Jvm.MethodName)) ∈ lw_all := lw_g (lw_at lw_m9 155 rfl) rfl
theorem q2171 : (Jvm.Cond.selects "RainWheelModel" ({ cls := "RainWheelModel", name := "pumps", desc := "(I)I" } : Jvm.MethodName) ({ cls := "RainWheelModel", name := "pumps", desc := "(I)I" } : Jvm.MethodName)) ∈ lw_all := lw_g (lw_at lw_m9 156 rfl) rfl
theorem q2172 : (Jvm.Cond.code ({ cls := "RainWheelModel", name := "pumps", desc := "(I)I" } : Jvm.MethodName) prog_19_method_102_code (2 : Nat) (Option.some Jvm.ClassFile.FieldType.int)) ∈ lw_all := lw_g (lw_at lw_m9 157 rfl) rfl
theorem q2174 : (Jvm.Cond.instanceMethod ({ cls := "RainWheelModel", name := "odds", desc := "(II)J" } : Jvm.MethodName)) ∈ lw_all := lw_g (lw_at lw_m9 159 rfl) rfl
theorem q2175 : (Jvm.Cond.selects "RainWheelModel" ({ cls := "RainWheelModel", name := "odds", desc := "(II)J" } : Jvm.MethodName) ({ cls := "RainWheelModel", name := "odds", desc := "(II)J" } : Jvm.MethodName)) ∈ lw_all := lw_g (lw_at lw_m9 160 rfl) rfl
theorem q2176 : (Jvm.Cond.code ({ cls := "RainWheelModel", name := "odds", desc := "(II)J" } : Jvm.MethodName) prog_19_method_104_code (6 : Nat) (Option.some Jvm.ClassFile.FieldType.long)) ∈ lw_all := lw_g (lw_at lw_m9 161 rfl) rfl
theorem q2177 : (Jvm.Cond.methodLink "RainWheelModel" (488 : Nat) ({ cls := "RainWheelModel", name := "weightOf", desc := "(III)J" } : Jvm.MethodName)) ∈ lw_all := lw_g (lw_at lw_m9 162 rfl) rfl
theorem q2178 : (Jvm.Cond.privateMethod ({ cls := "RainWheelModel", name := "weightOf", desc := "(III)J" } : Jvm.MethodName)) ∈ lw_tbl := lw_at lw_m9 163 rfl
theorem q2179 : (Jvm.Cond.instanceMethod ({ cls := "RainWheelModel", name := "weightOf", desc := "(III)J" } : Jvm.MethodName)) ∈ lw_all := lw_g (lw_at lw_m9 164 rfl) rfl
theorem q2180 : (Jvm.Cond.code ({ cls := "RainWheelModel", name := "weightOf", desc := "(III)J" } : Jvm.MethodName) prog_19_method_103_code (8 : Nat) (Option.some Jvm.ClassFile.FieldType.long)) ∈ lw_all := lw_g (lw_at lw_m9 165 rfl) rfl
theorem q2182 : (Jvm.Cond.instanceMethod ({ cls := "RainWheelModel", name := "likeliest", desc := "()I" } : Jvm.MethodName)) ∈ lw_all := lw_g (lw_at lw_m9 167 rfl) rfl
theorem q2183 : (Jvm.Cond.selects "RainWheelModel" ({ cls := "RainWheelModel", name := "likeliest", desc := "()I" } : Jvm.MethodName) ({ cls := "RainWheelModel", name := "likeliest", desc := "()I" } : Jvm.MethodName)) ∈ lw_all := lw_g (lw_at lw_m9 168 rfl) rfl
theorem q2184 : (Jvm.Cond.code ({ cls := "RainWheelModel", name := "likeliest", desc := "()I" } : Jvm.MethodName) prog_19_method_106_code (4 : Nat) (Option.some Jvm.ClassFile.FieldType.int)) ∈ lw_all := lw_g (lw_at lw_m9 169 rfl) rfl
theorem q2185 : (Jvm.Cond.methodLink "RainWheelModel" (491 : Nat) ({ cls := "RainWheelModel", name := "mostBy", desc := "(II)J" } : Jvm.MethodName)) ∈ lw_all := lw_g (lw_at lw_m9 170 rfl) rfl
theorem q2186 : (Jvm.Cond.privateMethod ({ cls := "RainWheelModel", name := "mostBy", desc := "(II)J" } : Jvm.MethodName)) ∈ lw_tbl := lw_at lw_m9 171 rfl
theorem q2187 : (Jvm.Cond.instanceMethod ({ cls := "RainWheelModel", name := "mostBy", desc := "(II)J" } : Jvm.MethodName)) ∈ lw_all := lw_g (lw_at lw_m9 172 rfl) rfl
theorem q2188 : (Jvm.Cond.code ({ cls := "RainWheelModel", name := "mostBy", desc := "(II)J" } : Jvm.MethodName) prog_19_method_105_code (6 : Nat) (Option.some Jvm.ClassFile.FieldType.long)) ∈ lw_all := lw_g (lw_at lw_m9 173 rfl) rfl
theorem q2190 : (Jvm.Cond.instanceMethod ({ cls := "RainWheelModel", name := "ask", desc := "()I" } : Jvm.MethodName)) ∈ lw_all := lw_g (lw_at lw_m9 175 rfl) rfl
theorem q2191 : (Jvm.Cond.selects "RainWheelModel" ({ cls := "RainWheelModel", name := "ask", desc := "()I" } : Jvm.MethodName) ({ cls := "RainWheelModel", name := "ask", desc := "()I" } : Jvm.MethodName)) ∈ lw_all := lw_g (lw_at lw_m9 176 rfl) rfl
theorem q2192 : (Jvm.Cond.code ({ cls := "RainWheelModel", name := "ask", desc := "()I" } : Jvm.MethodName) prog_19_method_107_code (7 : Nat) (Option.some Jvm.ClassFile.FieldType.int)) ∈ lw_all := lw_g (lw_at lw_m9 177 rfl) rfl
theorem q2194 : (Jvm.Cond.instanceMethod ({ cls := "RainWheelModel", name := "evening", desc := "(II)I" } : Jvm.MethodName)) ∈ lw_all := lw_g (lw_at lw_m9 179 rfl) rfl
theorem q2195 : (Jvm.Cond.selects "RainWheelModel" ({ cls := "RainWheelModel", name := "evening", desc := "(II)I" } : Jvm.MethodName) ({ cls := "RainWheelModel", name := "evening", desc := "(II)I" } : Jvm.MethodName)) ∈ lw_all := lw_g (lw_at lw_m9 180 rfl) rfl
theorem q2196 : (Jvm.Cond.code ({ cls := "RainWheelModel", name := "evening", desc := "(II)I" } : Jvm.MethodName) prog_19_method_109_code (4 : Nat) (Option.some Jvm.ClassFile.FieldType.int)) ∈ lw_all := lw_g (lw_at lw_m9 181 rfl) rfl
theorem q2197 : (Jvm.Cond.methodLink "RainWheelModel" (499 : Nat) ({ cls := "RainWheelModel", name := "wetAll", desc := "()I" } : Jvm.MethodName)) ∈ lw_all := lw_g (lw_at lw_m9 182 rfl) rfl
theorem q2198 : (Jvm.Cond.privateMethod ({ cls := "RainWheelModel", name := "wetAll", desc := "()I" } : Jvm.MethodName)) ∈ lw_tbl := lw_at lw_m9 183 rfl
theorem q2199 : (Jvm.Cond.instanceMethod ({ cls := "RainWheelModel", name := "wetAll", desc := "()I" } : Jvm.MethodName)) ∈ lw_all := lw_g (lw_at lw_m9 184 rfl) rfl
theorem q2200 : (Jvm.Cond.code ({ cls := "RainWheelModel", name := "wetAll", desc := "()I" } : Jvm.MethodName) prog_19_method_62_code (3 : Nat) (Option.some Jvm.ClassFile.FieldType.int)) ∈ lw_all := lw_g (lw_at lw_m9 185 rfl) rfl
theorem q2202 : (Jvm.Cond.instanceMethod ({ cls := "RainWheelModel", name := "evenings", desc := "(III)I" } : Jvm.MethodName)) ∈ lw_all := lw_g (lw_at lw_m9 187 rfl) rfl
theorem q2203 : (Jvm.Cond.selects "RainWheelModel" ({ cls := "RainWheelModel", name := "evenings", desc := "(III)I" } : Jvm.MethodName) ({ cls := "RainWheelModel", name := "evenings", desc := "(III)I" } : Jvm.MethodName)) ∈ lw_all := lw_g (lw_at lw_m9 188 rfl) rfl
theorem q2204 : (Jvm.Cond.code ({ cls := "RainWheelModel", name := "evenings", desc := "(III)I" } : Jvm.MethodName) prog_19_method_110_code (10 : Nat) (Option.some Jvm.ClassFile.FieldType.int)) ∈ lw_all := lw_g (lw_at lw_m9 189 rfl) rfl
theorem q2206 : (Jvm.Cond.instanceMethod ({ cls := "RainWheelModel", name := "swap", desc := "(II)I" } : Jvm.MethodName)) ∈ lw_all := lw_g (lw_at lw_m9 191 rfl) rfl
theorem q2207 : (Jvm.Cond.selects "RainWheelModel" ({ cls := "RainWheelModel", name := "swap", desc := "(II)I" } : Jvm.MethodName) ({ cls := "RainWheelModel", name := "swap", desc := "(II)I" } : Jvm.MethodName)) ∈ lw_all := lw_g (lw_at lw_m9 192 rfl) rfl
theorem q2208 : (Jvm.Cond.code ({ cls := "RainWheelModel", name := "swap", desc := "(II)I" } : Jvm.MethodName) prog_19_method_114_code (5 : Nat) (Option.some Jvm.ClassFile.FieldType.int)) ∈ lw_all := lw_g (lw_at lw_m9 193 rfl) rfl
theorem q2209 : (Jvm.Cond.methodLink "RainWheelModel" (506 : Nat) ({ cls := "RainWheelModel", name := "changes", desc := "()Z" } : Jvm.MethodName)) ∈ lw_all := lw_g (lw_at lw_m9 194 rfl) rfl
theorem q2210 : (Jvm.Cond.privateMethod ({ cls := "RainWheelModel", name := "changes", desc := "()Z" } : Jvm.MethodName)) ∈ lw_tbl := lw_at lw_m9 195 rfl
theorem q2211 : (Jvm.Cond.instanceMethod ({ cls := "RainWheelModel", name := "changes", desc := "()Z" } : Jvm.MethodName)) ∈ lw_all := lw_g (lw_at lw_m9 196 rfl) rfl
theorem q2212 : (Jvm.Cond.code ({ cls := "RainWheelModel", name := "changes", desc := "()Z" } : Jvm.MethodName) prog_19_method_113_code (1 : Nat) (Option.some Jvm.ClassFile.FieldType.boolean)) ∈ lw_all := lw_g (lw_at lw_m9 197 rfl) rfl
theorem q2213 : (Jvm.Cond.methodLink "RainWheelModel" (502 : Nat) ({ cls := "RainWheelModel", name := "keepsIn", desc := "([II)V" } : Jvm.MethodName)) ∈ lw_all := lw_g (lw_at lw_m9 198 rfl) rfl
theorem q2214 : (Jvm.Cond.privateMethod ({ cls := "RainWheelModel", name := "keepsIn", desc := "([II)V" } : Jvm.MethodName)) ∈ lw_tbl := lw_at lw_m9 199 rfl
theorem q2215 : (Jvm.Cond.instanceMethod ({ cls := "RainWheelModel", name := "keepsIn", desc := "([II)V" } : Jvm.MethodName)) ∈ lw_all := lw_g (lw_at lw_m9 200 rfl) rfl
theorem q2216 : (Jvm.Cond.code ({ cls := "RainWheelModel", name := "keepsIn", desc := "([II)V" } : Jvm.MethodName) prog_19_method_111_code (4 : Nat) (Option.none : Option Jvm.ClassFile.FieldType)) ∈ lw_all := lw_g (lw_at lw_m9 201 rfl) rfl
theorem q2218 : (Jvm.Cond.instanceMethod ({ cls := "RainWheelModel", name := "hand", desc := "(II)I" } : Jvm.MethodName)) ∈ lw_all := lw_g (lw_at lw_m9 203 rfl) rfl
theorem q2219 : (Jvm.Cond.selects "RainWheelModel" ({ cls := "RainWheelModel", name := "hand", desc := "(II)I" } : Jvm.MethodName) ({ cls := "RainWheelModel", name := "hand", desc := "(II)I" } : Jvm.MethodName)) ∈ lw_all := lw_g (lw_at lw_m9 204 rfl) rfl
theorem q2220 : (Jvm.Cond.code ({ cls := "RainWheelModel", name := "hand", desc := "(II)I" } : Jvm.MethodName) prog_19_method_115_code (3 : Nat) (Option.some Jvm.ClassFile.FieldType.int)) ∈ lw_all := lw_g (lw_at lw_m9 205 rfl) rfl
theorem q2222 : (Jvm.Cond.instanceMethod ({ cls := "RainWheelModel", name := "drop", desc := "(I)I" } : Jvm.MethodName)) ∈ lw_all := lw_g (lw_at lw_m9 207 rfl) rfl
theorem q2223 : (Jvm.Cond.selects "RainWheelModel" ({ cls := "RainWheelModel", name := "drop", desc := "(I)I" } : Jvm.MethodName) ({ cls := "RainWheelModel", name := "drop", desc := "(I)I" } : Jvm.MethodName)) ∈ lw_all := lw_g (lw_at lw_m9 208 rfl) rfl
theorem q2224 : (Jvm.Cond.code ({ cls := "RainWheelModel", name := "drop", desc := "(I)I" } : Jvm.MethodName) prog_19_method_116_code (3 : Nat) (Option.some Jvm.ClassFile.FieldType.int)) ∈ lw_all := lw_g (lw_at lw_m9 209 rfl) rfl
theorem q2226 : (Jvm.Cond.instanceMethod ({ cls := "RainWheelModel", name := "undo", desc := "()I" } : Jvm.MethodName)) ∈ lw_all := lw_g (lw_at lw_m9 211 rfl) rfl
theorem q2227 : (Jvm.Cond.selects "RainWheelModel" ({ cls := "RainWheelModel", name := "undo", desc := "()I" } : Jvm.MethodName) ({ cls := "RainWheelModel", name := "undo", desc := "()I" } : Jvm.MethodName)) ∈ lw_all := lw_g (lw_at lw_m9 212 rfl) rfl
theorem q2228 : (Jvm.Cond.code ({ cls := "RainWheelModel", name := "undo", desc := "()I" } : Jvm.MethodName) prog_19_method_117_code (1 : Nat) (Option.some Jvm.ClassFile.FieldType.int)) ∈ lw_all := lw_g (lw_at lw_m9 213 rfl) rfl
theorem q2229 : (Jvm.Cond.methodLink "RainWheelModel" (508 : Nat) ({ cls := "RainWheelModel", name := "takesFrom", desc := "([II)V" } : Jvm.MethodName)) ∈ lw_all := lw_g (lw_at lw_m9 214 rfl) rfl
theorem q2230 : (Jvm.Cond.privateMethod ({ cls := "RainWheelModel", name := "takesFrom", desc := "([II)V" } : Jvm.MethodName)) ∈ lw_tbl := lw_at lw_m9 215 rfl
theorem q2231 : (Jvm.Cond.instanceMethod ({ cls := "RainWheelModel", name := "takesFrom", desc := "([II)V" } : Jvm.MethodName)) ∈ lw_all := lw_g (lw_at lw_m9 216 rfl) rfl
theorem q2232 : (Jvm.Cond.code ({ cls := "RainWheelModel", name := "takesFrom", desc := "([II)V" } : Jvm.MethodName) prog_19_method_112_code (4 : Nat) (Option.none : Option Jvm.ClassFile.FieldType)) ∈ lw_all := lw_g (lw_at lw_m9 217 rfl) rfl
theorem q2234 : (Jvm.Cond.instanceMethod ({ cls := "RainWheelModel", name := "image", desc := "()I" } : Jvm.MethodName)) ∈ lw_all := lw_g (lw_at lw_m9 219 rfl) rfl
theorem q2235 : (Jvm.Cond.selects "RainWheelModel" ({ cls := "RainWheelModel", name := "image", desc := "()I" } : Jvm.MethodName) ({ cls := "RainWheelModel", name := "image", desc := "()I" } : Jvm.MethodName)) ∈ lw_all := lw_g (lw_at lw_m9 220 rfl) rfl
theorem q2236 : (Jvm.Cond.code ({ cls := "RainWheelModel", name := "image", desc := "()I" } : Jvm.MethodName) prog_19_method_118_code (3 : Nat) (Option.some Jvm.ClassFile.FieldType.int)) ∈ lw_all := lw_g (lw_at lw_m9 221 rfl) rfl
theorem q2238 : (Jvm.Cond.instanceMethod ({ cls := "RainWheelModel", name := "restore", desc := "()I" } : Jvm.MethodName)) ∈ lw_all := lw_g (lw_at lw_m9 223 rfl) rfl
theorem q2239 : (Jvm.Cond.selects "RainWheelModel" ({ cls := "RainWheelModel", name := "restore", desc := "()I" } : Jvm.MethodName) ({ cls := "RainWheelModel", name := "restore", desc := "()I" } : Jvm.MethodName)) ∈ lw_all := lw_g (lw_at lw_m9 224 rfl) rfl
theorem q2240 : (Jvm.Cond.code ({ cls := "RainWheelModel", name := "restore", desc := "()I" } : Jvm.MethodName) prog_19_method_119_code (3 : Nat) (Option.some Jvm.ClassFile.FieldType.int)) ∈ lw_all := lw_g (lw_at lw_m9 225 rfl) rfl
theorem q2242 : (Jvm.Cond.instanceMethod ({ cls := "RainWheelModel", name := "status", desc := "(I)I" } : Jvm.MethodName)) ∈ lw_all := lw_g (lw_at lw_m9 227 rfl) rfl
theorem q2243 : (Jvm.Cond.selects "RainWheelModel" ({ cls := "RainWheelModel", name := "status", desc := "(I)I" } : Jvm.MethodName) ({ cls := "RainWheelModel", name := "status", desc := "(I)I" } : Jvm.MethodName)) ∈ lw_all := lw_g (lw_at lw_m9 228 rfl) rfl
theorem q2244 : (Jvm.Cond.code ({ cls := "RainWheelModel", name := "status", desc := "(I)I" } : Jvm.MethodName) prog_19_method_120_code (2 : Nat) (Option.some Jvm.ClassFile.FieldType.int)) ∈ lw_all := lw_g (lw_at lw_m9 229 rfl) rfl
theorem q2246 : (Jvm.Cond.instanceMethod ({ cls := "RainWheelModel", name := "count", desc := "(I)I" } : Jvm.MethodName)) ∈ lw_all := lw_g (lw_at lw_m9 231 rfl) rfl
theorem q2247 : (Jvm.Cond.selects "RainWheelModel" ({ cls := "RainWheelModel", name := "count", desc := "(I)I" } : Jvm.MethodName) ({ cls := "RainWheelModel", name := "count", desc := "(I)I" } : Jvm.MethodName)) ∈ lw_all := lw_g (lw_at lw_m9 232 rfl) rfl
theorem q2248 : (Jvm.Cond.code ({ cls := "RainWheelModel", name := "count", desc := "(I)I" } : Jvm.MethodName) prog_19_method_121_code (2 : Nat) (Option.some Jvm.ClassFile.FieldType.int)) ∈ lw_all := lw_g (lw_at lw_m9 233 rfl) rfl
theorem q2260 : (Jvm.Cond.castable "RainWheelModel" "java/lang/Object") ∈ lw_tbl := lw_at lw_m10 5 rfl

